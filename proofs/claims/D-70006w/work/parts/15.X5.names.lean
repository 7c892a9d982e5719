/-! EchoPens$Reader -/
set_option maxRecDepth 100000
def RX5 : String := "EchoPens$Reader"
def TX5 : u_T := fun k => match k with
  | 0 => ("EchoPens$Reader", "t", "[B", true)
  | 1 => ("EchoPens$Reader", "farm", "LEchoPens$Farm;", true)
  | 2 => ("EchoPens$Reader", "orders", "[LEchoPens$Order;", true)
  | 3 => ("EchoPens$Reader", "penMany", "I", false)
  | 4 => ("EchoPens$Reader", "orderMany", "I", false)
  | 5 => ("EchoPens$Reader", "highPen", "I", false)
  | 6 => ("EchoPens$Reader", "lines", "I", false)
  | 7 => ("EchoPens$Reader", "from", "I", false)
  | 8 => ("EchoPens$Reader", "to", "I", false)
  | 9 => ("EchoPens$Reader", "kind", "I", false)
  | _ => ("EchoPens$Reader", "value", "I", false)
def tyX5 : Nat → FieldType := fun k => match k with
  | 0 => .array .byte
  | 1 => .object "EchoPens$Farm"
  | 2 => .array (.object "EchoPens$Order")
  | 3 => .int
  | 4 => .int
  | 5 => .int
  | 6 => .int
  | 7 => .int
  | 8 => .int
  | 9 => .int
  | _ => .int
abbrev wsX50 : List Cond := u_ws RX5 TX5 11
theorem nmX5 : ∀ a, a < 11 → ∀ b, b < 11 → a ≠ b → (TX5 a).2.1 ≠ (TX5 b).2.1 := by decide +kernel
theorem tyX5_ok : ∀ k, k < 11 → parseFieldDescriptor (TX5 k).2.2.1 = some (tyX5 k) := by decide +kernel
abbrev cX5_init : ByteArray := prog_7_method_1_code
def yX5_init : MethodName := ⟨RX5, "<init>", "([B)V"⟩
def dkwX5_init_1 : List UInt8 := [16, 252, 181, 0, 24, 42, 43, 181, 0, 28, 42, 182, 0, 32, 177]
abbrev dktX5_init_1 : List UInt8 := dkwX5_init_1 ++ []
def dkwX5_init_0 : List UInt8 := [42, 183, 0, 3, 42, 187, 0, 9, 89, 183, 0, 11, 181, 0, 12, 42, 7, 189, 0, 18, 181, 0, 20, 42]
abbrev dktX5_init_0 : List UInt8 := dkwX5_init_0 ++ dktX5_init_1
theorem dksX5_init_0 : cX5_init.data.toList.drop 0 = dktX5_init_0 := by decide +kernel
theorem dksX5_init_1 : cX5_init.data.toList.drop 24 = dktX5_init_1 := dk_seg dksX5_init_0 24 rfl rfl
theorem dX5_init_0 : decode cX5_init 0 = .ok (.aload_n 0, 1) := dk_42 (dk_at dksX5_init_0 0 rfl rfl)
theorem dX5_init_1 : decode cX5_init 1 = .ok (.invokespecial 3, 3) := dk_183 0 3 (dk_at dksX5_init_0 1 rfl rfl)
theorem dX5_init_4 : decode cX5_init 4 = .ok (.aload_n 0, 1) := dk_42 (dk_at dksX5_init_0 4 rfl rfl)
theorem dX5_init_5 : decode cX5_init 5 = .ok (.new 9, 3) := dk_187 0 9 (dk_at dksX5_init_0 5 rfl rfl)
theorem dX5_init_8 : decode cX5_init 8 = .ok (.dup, 1) := dk_89 (dk_at dksX5_init_0 8 rfl rfl)
theorem dX5_init_9 : decode cX5_init 9 = .ok (.invokespecial 11, 3) := dk_183 0 11 (dk_at dksX5_init_0 9 rfl rfl)
theorem dX5_init_12 : decode cX5_init 12 = .ok (.putfield 12, 3) := dk_181 0 12 (dk_at dksX5_init_0 12 rfl rfl)
theorem dX5_init_15 : decode cX5_init 15 = .ok (.aload_n 0, 1) := dk_42 (dk_at dksX5_init_0 15 rfl rfl)
theorem dX5_init_16 : decode cX5_init 16 = .ok (.iconst 4, 1) := dk_7 (dk_at dksX5_init_0 16 rfl rfl)
theorem dX5_init_17 : decode cX5_init 17 = .ok (.anewarray 18, 3) := dk_189 0 18 (dk_at dksX5_init_0 17 rfl rfl)
theorem dX5_init_20 : decode cX5_init 20 = .ok (.putfield 20, 3) := dk_181 0 20 (dk_at dksX5_init_0 20 rfl rfl)
theorem dX5_init_23 : decode cX5_init 23 = .ok (.aload_n 0, 1) := dk_42 (dk_at dksX5_init_0 23 rfl rfl)
theorem dX5_init_24 : decode cX5_init 24 = .ok (.bipush (-4), 2) := dk_16 252 (dk_at dksX5_init_1 0 rfl rfl)
theorem dX5_init_26 : decode cX5_init 26 = .ok (.putfield 24, 3) := dk_181 0 24 (dk_at dksX5_init_1 2 rfl rfl)
theorem dX5_init_29 : decode cX5_init 29 = .ok (.aload_n 0, 1) := dk_42 (dk_at dksX5_init_1 5 rfl rfl)
theorem dX5_init_30 : decode cX5_init 30 = .ok (.aload_n 1, 1) := dk_43 (dk_at dksX5_init_1 6 rfl rfl)
theorem dX5_init_31 : decode cX5_init 31 = .ok (.putfield 28, 3) := dk_181 0 28 (dk_at dksX5_init_1 7 rfl rfl)
theorem dX5_init_34 : decode cX5_init 34 = .ok (.aload_n 0, 1) := dk_42 (dk_at dksX5_init_1 10 rfl rfl)
theorem dX5_init_35 : decode cX5_init 35 = .ok (.invokevirtual 32, 3) := dk_182 0 32 (dk_at dksX5_init_1 11 rfl rfl)
theorem dX5_init_38 : decode cX5_init 38 = .ok (.return_, 1) := dk_177 (dk_at dksX5_init_1 14 rfl rfl)
abbrev cX5_next : ByteArray := prog_7_method_5_code
def yX5_next : MethodName := ⟨RX5, "next", "()V"⟩
def dkwX5_next_12 : List UInt8 := [160, 0, 7, 4, 167, 0, 4, 3, 4, 182, 0, 78, 42, 6, 181, 0, 43, 177]
abbrev dktX5_next_12 : List UInt8 := dkwX5_next_12 ++ []
def dkwX5_next_11 : List UInt8 := [163, 0, 7, 4, 167, 0, 4, 3, 4, 182, 0, 78, 42, 5, 181, 0, 43, 167, 0, 24, 42, 27, 16, 59]
abbrev dktX5_next_11 : List UInt8 := dkwX5_next_11 ++ dktX5_next_12
def dkwX5_next_10 : List UInt8 := [180, 0, 52, 4, 96, 181, 0, 52, 167, 255, 182, 42, 42, 180, 0, 52, 42, 180, 0, 37, 100, 5]
abbrev dktX5_next_10 : List UInt8 := dkwX5_next_10 ++ dktX5_next_11
def dkwX5_next_9 : List UInt8 := [180, 0, 52, 182, 0, 59, 96, 16, 48, 100, 167, 0, 7, 42, 180, 0, 63, 181, 0, 63, 42, 89]
abbrev dktX5_next_9 : List UInt8 := dkwX5_next_9 ++ dktX5_next_10
def dkwX5_next_8 : List UInt8 := [42, 42, 180, 0, 52, 42, 180, 0, 37, 100, 5, 162, 0, 25, 16, 10, 42, 180, 0, 63, 104, 42, 42]
abbrev dktX5_next_8 : List UInt8 := dkwX5_next_8 ++ dktX5_next_9
def dkwX5_next_7 : List UInt8 := [181, 0, 63, 42, 42, 180, 0, 52, 182, 0, 59, 133, 20, 0, 74, 20, 0, 76, 184, 0, 70, 153, 0, 59]
abbrev dktX5_next_7 : List UInt8 := dkwX5_next_7 ++ dktX5_next_8
def dkwX5_next_6 : List UInt8 := [20, 0, 74, 20, 0, 76, 184, 0, 70, 153, 0, 124, 42, 42, 180, 0, 37, 181, 0, 52, 42, 3]
abbrev dktX5_next_6 : List UInt8 := dkwX5_next_6 ++ dktX5_next_7
def dkwX5_next_5 : List UInt8 := [42, 89, 180, 0, 52, 4, 96, 181, 0, 52, 167, 255, 225, 42, 4, 181, 0, 43, 167, 0, 159, 27, 133]
abbrev dktX5_next_5 : List UInt8 := dkwX5_next_5 ++ dktX5_next_6
def dkwX5_next_4 : List UInt8 := [153, 0, 45, 42, 42, 180, 0, 52, 182, 0, 59, 133, 20, 0, 66, 20, 0, 68, 184, 0, 70, 153, 0, 16]
abbrev dktX5_next_4 : List UInt8 := dkwX5_next_4 ++ dktX5_next_5
def dkwX5_next_3 : List UInt8 := [181, 0, 52, 42, 3, 181, 0, 43, 167, 0, 215, 27, 133, 20, 0, 66, 20, 0, 68, 184, 0, 70]
abbrev dktX5_next_3 : List UInt8 := dkwX5_next_3 ++ dktX5_next_4
def dkwX5_next_2 : List UInt8 := [180, 0, 37, 4, 96, 181, 0, 52, 42, 27, 181, 0, 63, 27, 16, 252, 160, 0, 19, 42, 42, 180, 0, 37]
abbrev dktX5_next_2 : List UInt8 := dkwX5_next_2 ++ dktX5_next_3
def dkwX5_next_1 : List UInt8 := [180, 0, 37, 4, 96, 181, 0, 37, 167, 255, 233, 42, 42, 180, 0, 37, 182, 0, 59, 60, 42, 42]
abbrev dktX5_next_1 : List UInt8 := dkwX5_next_1 ++ dktX5_next_2
def dkwX5_next_0 : List UInt8 := [42, 42, 180, 0, 52, 181, 0, 37, 42, 42, 180, 0, 37, 182, 0, 59, 16, 32, 160, 0, 16, 42, 89]
abbrev dktX5_next_0 : List UInt8 := dkwX5_next_0 ++ dktX5_next_1
theorem dksX5_next_0 : cX5_next.data.toList.drop 0 = dktX5_next_0 := by decide +kernel
theorem dksX5_next_1 : cX5_next.data.toList.drop 23 = dktX5_next_1 := dk_seg dksX5_next_0 23 rfl rfl
theorem dksX5_next_2 : cX5_next.data.toList.drop 45 = dktX5_next_2 := dk_seg dksX5_next_1 22 rfl rfl
theorem dksX5_next_3 : cX5_next.data.toList.drop 69 = dktX5_next_3 := dk_seg dksX5_next_2 24 rfl rfl
theorem dksX5_next_4 : cX5_next.data.toList.drop 91 = dktX5_next_4 := dk_seg dksX5_next_3 22 rfl rfl
theorem dksX5_next_5 : cX5_next.data.toList.drop 115 = dktX5_next_5 := dk_seg dksX5_next_4 24 rfl rfl
theorem dksX5_next_6 : cX5_next.data.toList.drop 138 = dktX5_next_6 := dk_seg dksX5_next_5 23 rfl rfl
theorem dksX5_next_7 : cX5_next.data.toList.drop 160 = dktX5_next_7 := dk_seg dksX5_next_6 22 rfl rfl
theorem dksX5_next_8 : cX5_next.data.toList.drop 184 = dktX5_next_8 := dk_seg dksX5_next_7 24 rfl rfl
theorem dksX5_next_9 : cX5_next.data.toList.drop 207 = dktX5_next_9 := dk_seg dksX5_next_8 23 rfl rfl
theorem dksX5_next_10 : cX5_next.data.toList.drop 229 = dktX5_next_10 := dk_seg dksX5_next_9 22 rfl rfl
theorem dksX5_next_11 : cX5_next.data.toList.drop 251 = dktX5_next_11 := dk_seg dksX5_next_10 22 rfl rfl
theorem dksX5_next_12 : cX5_next.data.toList.drop 275 = dktX5_next_12 := dk_seg dksX5_next_11 24 rfl rfl
theorem dX5_next_0 : decode cX5_next 0 = .ok (.aload_n 0, 1) := dk_42 (dk_at dksX5_next_0 0 rfl rfl)
theorem dX5_next_1 : decode cX5_next 1 = .ok (.aload_n 0, 1) := dk_42 (dk_at dksX5_next_0 1 rfl rfl)
theorem dX5_next_2 : decode cX5_next 2 = .ok (.getfield 52, 3) := dk_180 0 52 (dk_at dksX5_next_0 2 rfl rfl)
theorem dX5_next_5 : decode cX5_next 5 = .ok (.putfield 37, 3) := dk_181 0 37 (dk_at dksX5_next_0 5 rfl rfl)
theorem dX5_next_8 : decode cX5_next 8 = .ok (.aload_n 0, 1) := dk_42 (dk_at dksX5_next_0 8 rfl rfl)
theorem dX5_next_9 : decode cX5_next 9 = .ok (.aload_n 0, 1) := dk_42 (dk_at dksX5_next_0 9 rfl rfl)
theorem dX5_next_10 : decode cX5_next 10 = .ok (.getfield 37, 3) := dk_180 0 37 (dk_at dksX5_next_0 10 rfl rfl)
theorem dX5_next_13 : decode cX5_next 13 = .ok (.invokevirtual 59, 3) := dk_182 0 59 (dk_at dksX5_next_0 13 rfl rfl)
theorem dX5_next_16 : decode cX5_next 16 = .ok (.bipush 32, 2) := dk_16 32 (dk_at dksX5_next_0 16 rfl rfl)
theorem dX5_next_18 : decode cX5_next 18 = .ok (.if_icmp .ne 16, 3) := dk_160 0 16 (dk_at dksX5_next_0 18 rfl rfl)
theorem dX5_next_21 : decode cX5_next 21 = .ok (.aload_n 0, 1) := dk_42 (dk_at dksX5_next_0 21 rfl rfl)
theorem dX5_next_22 : decode cX5_next 22 = .ok (.dup, 1) := dk_89 (dk_at dksX5_next_0 22 rfl rfl)
theorem dX5_next_23 : decode cX5_next 23 = .ok (.getfield 37, 3) := dk_180 0 37 (dk_at dksX5_next_1 0 rfl rfl)
theorem dX5_next_26 : decode cX5_next 26 = .ok (.iconst 1, 1) := dk_4 (dk_at dksX5_next_1 3 rfl rfl)
theorem dX5_next_27 : decode cX5_next 27 = .ok (.iadd, 1) := dk_96 (dk_at dksX5_next_1 4 rfl rfl)
theorem dX5_next_28 : decode cX5_next 28 = .ok (.putfield 37, 3) := dk_181 0 37 (dk_at dksX5_next_1 5 rfl rfl)
theorem dX5_next_31 : decode cX5_next 31 = .ok (.goto (-23), 3) := dk_167 255 233 (dk_at dksX5_next_1 8 rfl rfl)
theorem dX5_next_34 : decode cX5_next 34 = .ok (.aload_n 0, 1) := dk_42 (dk_at dksX5_next_1 11 rfl rfl)
theorem dX5_next_35 : decode cX5_next 35 = .ok (.aload_n 0, 1) := dk_42 (dk_at dksX5_next_1 12 rfl rfl)
theorem dX5_next_36 : decode cX5_next 36 = .ok (.getfield 37, 3) := dk_180 0 37 (dk_at dksX5_next_1 13 rfl rfl)
theorem dX5_next_39 : decode cX5_next 39 = .ok (.invokevirtual 59, 3) := dk_182 0 59 (dk_at dksX5_next_1 16 rfl rfl)
theorem dX5_next_42 : decode cX5_next 42 = .ok (.istore_n 1, 1) := dk_60 (dk_at dksX5_next_1 19 rfl rfl)
theorem dX5_next_43 : decode cX5_next 43 = .ok (.aload_n 0, 1) := dk_42 (dk_at dksX5_next_1 20 rfl rfl)
theorem dX5_next_44 : decode cX5_next 44 = .ok (.aload_n 0, 1) := dk_42 (dk_at dksX5_next_1 21 rfl rfl)
theorem dX5_next_45 : decode cX5_next 45 = .ok (.getfield 37, 3) := dk_180 0 37 (dk_at dksX5_next_2 0 rfl rfl)
theorem dX5_next_48 : decode cX5_next 48 = .ok (.iconst 1, 1) := dk_4 (dk_at dksX5_next_2 3 rfl rfl)
theorem dX5_next_49 : decode cX5_next 49 = .ok (.iadd, 1) := dk_96 (dk_at dksX5_next_2 4 rfl rfl)
theorem dX5_next_50 : decode cX5_next 50 = .ok (.putfield 52, 3) := dk_181 0 52 (dk_at dksX5_next_2 5 rfl rfl)
theorem dX5_next_53 : decode cX5_next 53 = .ok (.aload_n 0, 1) := dk_42 (dk_at dksX5_next_2 8 rfl rfl)
theorem dX5_next_54 : decode cX5_next 54 = .ok (.iload_n 1, 1) := dk_27 (dk_at dksX5_next_2 9 rfl rfl)
theorem dX5_next_55 : decode cX5_next 55 = .ok (.putfield 63, 3) := dk_181 0 63 (dk_at dksX5_next_2 10 rfl rfl)
theorem dX5_next_58 : decode cX5_next 58 = .ok (.iload_n 1, 1) := dk_27 (dk_at dksX5_next_2 13 rfl rfl)
theorem dX5_next_59 : decode cX5_next 59 = .ok (.bipush (-4), 2) := dk_16 252 (dk_at dksX5_next_2 14 rfl rfl)
theorem dX5_next_61 : decode cX5_next 61 = .ok (.if_icmp .ne 19, 3) := dk_160 0 19 (dk_at dksX5_next_2 16 rfl rfl)
theorem dX5_next_64 : decode cX5_next 64 = .ok (.aload_n 0, 1) := dk_42 (dk_at dksX5_next_2 19 rfl rfl)
theorem dX5_next_65 : decode cX5_next 65 = .ok (.aload_n 0, 1) := dk_42 (dk_at dksX5_next_2 20 rfl rfl)
theorem dX5_next_66 : decode cX5_next 66 = .ok (.getfield 37, 3) := dk_180 0 37 (dk_at dksX5_next_2 21 rfl rfl)
theorem dX5_next_69 : decode cX5_next 69 = .ok (.putfield 52, 3) := dk_181 0 52 (dk_at dksX5_next_3 0 rfl rfl)
theorem dX5_next_72 : decode cX5_next 72 = .ok (.aload_n 0, 1) := dk_42 (dk_at dksX5_next_3 3 rfl rfl)
theorem dX5_next_73 : decode cX5_next 73 = .ok (.iconst 0, 1) := dk_3 (dk_at dksX5_next_3 4 rfl rfl)
theorem dX5_next_74 : decode cX5_next 74 = .ok (.putfield 43, 3) := dk_181 0 43 (dk_at dksX5_next_3 5 rfl rfl)
theorem dX5_next_77 : decode cX5_next 77 = .ok (.goto 215, 3) := dk_167 0 215 (dk_at dksX5_next_3 8 rfl rfl)
theorem dX5_next_80 : decode cX5_next 80 = .ok (.iload_n 1, 1) := dk_27 (dk_at dksX5_next_3 11 rfl rfl)
theorem dX5_next_81 : decode cX5_next 81 = .ok (.i2l, 1) := dk_133 (dk_at dksX5_next_3 12 rfl rfl)
theorem dX5_next_82 : decode cX5_next 82 = .ok (.ldc2_w 66, 3) := dk_20 0 66 (dk_at dksX5_next_3 13 rfl rfl)
theorem dX5_next_85 : decode cX5_next 85 = .ok (.ldc2_w 68, 3) := dk_20 0 68 (dk_at dksX5_next_3 16 rfl rfl)
theorem dX5_next_88 : decode cX5_next 88 = .ok (.invokestatic 70, 3) := dk_184 0 70 (dk_at dksX5_next_3 19 rfl rfl)
theorem dX5_next_91 : decode cX5_next 91 = .ok (.ifCond .eq 45, 3) := dk_153 0 45 (dk_at dksX5_next_4 0 rfl rfl)
theorem dX5_next_94 : decode cX5_next 94 = .ok (.aload_n 0, 1) := dk_42 (dk_at dksX5_next_4 3 rfl rfl)
theorem dX5_next_95 : decode cX5_next 95 = .ok (.aload_n 0, 1) := dk_42 (dk_at dksX5_next_4 4 rfl rfl)
theorem dX5_next_96 : decode cX5_next 96 = .ok (.getfield 52, 3) := dk_180 0 52 (dk_at dksX5_next_4 5 rfl rfl)
theorem dX5_next_99 : decode cX5_next 99 = .ok (.invokevirtual 59, 3) := dk_182 0 59 (dk_at dksX5_next_4 8 rfl rfl)
theorem dX5_next_102 : decode cX5_next 102 = .ok (.i2l, 1) := dk_133 (dk_at dksX5_next_4 11 rfl rfl)
theorem dX5_next_103 : decode cX5_next 103 = .ok (.ldc2_w 66, 3) := dk_20 0 66 (dk_at dksX5_next_4 12 rfl rfl)
theorem dX5_next_106 : decode cX5_next 106 = .ok (.ldc2_w 68, 3) := dk_20 0 68 (dk_at dksX5_next_4 15 rfl rfl)
theorem dX5_next_109 : decode cX5_next 109 = .ok (.invokestatic 70, 3) := dk_184 0 70 (dk_at dksX5_next_4 18 rfl rfl)
theorem dX5_next_112 : decode cX5_next 112 = .ok (.ifCond .eq 16, 3) := dk_153 0 16 (dk_at dksX5_next_4 21 rfl rfl)
theorem dX5_next_115 : decode cX5_next 115 = .ok (.aload_n 0, 1) := dk_42 (dk_at dksX5_next_5 0 rfl rfl)
theorem dX5_next_116 : decode cX5_next 116 = .ok (.dup, 1) := dk_89 (dk_at dksX5_next_5 1 rfl rfl)
theorem dX5_next_117 : decode cX5_next 117 = .ok (.getfield 52, 3) := dk_180 0 52 (dk_at dksX5_next_5 2 rfl rfl)
theorem dX5_next_120 : decode cX5_next 120 = .ok (.iconst 1, 1) := dk_4 (dk_at dksX5_next_5 5 rfl rfl)
theorem dX5_next_121 : decode cX5_next 121 = .ok (.iadd, 1) := dk_96 (dk_at dksX5_next_5 6 rfl rfl)
theorem dX5_next_122 : decode cX5_next 122 = .ok (.putfield 52, 3) := dk_181 0 52 (dk_at dksX5_next_5 7 rfl rfl)
theorem dX5_next_125 : decode cX5_next 125 = .ok (.goto (-31), 3) := dk_167 255 225 (dk_at dksX5_next_5 10 rfl rfl)
theorem dX5_next_128 : decode cX5_next 128 = .ok (.aload_n 0, 1) := dk_42 (dk_at dksX5_next_5 13 rfl rfl)
theorem dX5_next_129 : decode cX5_next 129 = .ok (.iconst 1, 1) := dk_4 (dk_at dksX5_next_5 14 rfl rfl)
theorem dX5_next_130 : decode cX5_next 130 = .ok (.putfield 43, 3) := dk_181 0 43 (dk_at dksX5_next_5 15 rfl rfl)
theorem dX5_next_133 : decode cX5_next 133 = .ok (.goto 159, 3) := dk_167 0 159 (dk_at dksX5_next_5 18 rfl rfl)
theorem dX5_next_136 : decode cX5_next 136 = .ok (.iload_n 1, 1) := dk_27 (dk_at dksX5_next_5 21 rfl rfl)
theorem dX5_next_137 : decode cX5_next 137 = .ok (.i2l, 1) := dk_133 (dk_at dksX5_next_5 22 rfl rfl)
theorem dX5_next_138 : decode cX5_next 138 = .ok (.ldc2_w 74, 3) := dk_20 0 74 (dk_at dksX5_next_6 0 rfl rfl)
theorem dX5_next_141 : decode cX5_next 141 = .ok (.ldc2_w 76, 3) := dk_20 0 76 (dk_at dksX5_next_6 3 rfl rfl)
theorem dX5_next_144 : decode cX5_next 144 = .ok (.invokestatic 70, 3) := dk_184 0 70 (dk_at dksX5_next_6 6 rfl rfl)
theorem dX5_next_147 : decode cX5_next 147 = .ok (.ifCond .eq 124, 3) := dk_153 0 124 (dk_at dksX5_next_6 9 rfl rfl)
theorem dX5_next_150 : decode cX5_next 150 = .ok (.aload_n 0, 1) := dk_42 (dk_at dksX5_next_6 12 rfl rfl)
theorem dX5_next_151 : decode cX5_next 151 = .ok (.aload_n 0, 1) := dk_42 (dk_at dksX5_next_6 13 rfl rfl)
theorem dX5_next_152 : decode cX5_next 152 = .ok (.getfield 37, 3) := dk_180 0 37 (dk_at dksX5_next_6 14 rfl rfl)
theorem dX5_next_155 : decode cX5_next 155 = .ok (.putfield 52, 3) := dk_181 0 52 (dk_at dksX5_next_6 17 rfl rfl)
theorem dX5_next_158 : decode cX5_next 158 = .ok (.aload_n 0, 1) := dk_42 (dk_at dksX5_next_6 20 rfl rfl)
theorem dX5_next_159 : decode cX5_next 159 = .ok (.iconst 0, 1) := dk_3 (dk_at dksX5_next_6 21 rfl rfl)
theorem dX5_next_160 : decode cX5_next 160 = .ok (.putfield 63, 3) := dk_181 0 63 (dk_at dksX5_next_7 0 rfl rfl)
theorem dX5_next_163 : decode cX5_next 163 = .ok (.aload_n 0, 1) := dk_42 (dk_at dksX5_next_7 3 rfl rfl)
theorem dX5_next_164 : decode cX5_next 164 = .ok (.aload_n 0, 1) := dk_42 (dk_at dksX5_next_7 4 rfl rfl)
theorem dX5_next_165 : decode cX5_next 165 = .ok (.getfield 52, 3) := dk_180 0 52 (dk_at dksX5_next_7 5 rfl rfl)
theorem dX5_next_168 : decode cX5_next 168 = .ok (.invokevirtual 59, 3) := dk_182 0 59 (dk_at dksX5_next_7 8 rfl rfl)
theorem dX5_next_171 : decode cX5_next 171 = .ok (.i2l, 1) := dk_133 (dk_at dksX5_next_7 11 rfl rfl)
theorem dX5_next_172 : decode cX5_next 172 = .ok (.ldc2_w 74, 3) := dk_20 0 74 (dk_at dksX5_next_7 12 rfl rfl)
theorem dX5_next_175 : decode cX5_next 175 = .ok (.ldc2_w 76, 3) := dk_20 0 76 (dk_at dksX5_next_7 15 rfl rfl)
theorem dX5_next_178 : decode cX5_next 178 = .ok (.invokestatic 70, 3) := dk_184 0 70 (dk_at dksX5_next_7 18 rfl rfl)
theorem dX5_next_181 : decode cX5_next 181 = .ok (.ifCond .eq 59, 3) := dk_153 0 59 (dk_at dksX5_next_7 21 rfl rfl)
theorem dX5_next_184 : decode cX5_next 184 = .ok (.aload_n 0, 1) := dk_42 (dk_at dksX5_next_8 0 rfl rfl)
theorem dX5_next_185 : decode cX5_next 185 = .ok (.aload_n 0, 1) := dk_42 (dk_at dksX5_next_8 1 rfl rfl)
theorem dX5_next_186 : decode cX5_next 186 = .ok (.getfield 52, 3) := dk_180 0 52 (dk_at dksX5_next_8 2 rfl rfl)
theorem dX5_next_189 : decode cX5_next 189 = .ok (.aload_n 0, 1) := dk_42 (dk_at dksX5_next_8 5 rfl rfl)
theorem dX5_next_190 : decode cX5_next 190 = .ok (.getfield 37, 3) := dk_180 0 37 (dk_at dksX5_next_8 6 rfl rfl)
theorem dX5_next_193 : decode cX5_next 193 = .ok (.isub, 1) := dk_100 (dk_at dksX5_next_8 9 rfl rfl)
theorem dX5_next_194 : decode cX5_next 194 = .ok (.iconst 2, 1) := dk_5 (dk_at dksX5_next_8 10 rfl rfl)
theorem dX5_next_195 : decode cX5_next 195 = .ok (.if_icmp .ge 25, 3) := dk_162 0 25 (dk_at dksX5_next_8 11 rfl rfl)
theorem dX5_next_198 : decode cX5_next 198 = .ok (.bipush 10, 2) := dk_16 10 (dk_at dksX5_next_8 14 rfl rfl)
theorem dX5_next_200 : decode cX5_next 200 = .ok (.aload_n 0, 1) := dk_42 (dk_at dksX5_next_8 16 rfl rfl)
theorem dX5_next_201 : decode cX5_next 201 = .ok (.getfield 63, 3) := dk_180 0 63 (dk_at dksX5_next_8 17 rfl rfl)
theorem dX5_next_204 : decode cX5_next 204 = .ok (.imul, 1) := dk_104 (dk_at dksX5_next_8 20 rfl rfl)
theorem dX5_next_205 : decode cX5_next 205 = .ok (.aload_n 0, 1) := dk_42 (dk_at dksX5_next_8 21 rfl rfl)
theorem dX5_next_206 : decode cX5_next 206 = .ok (.aload_n 0, 1) := dk_42 (dk_at dksX5_next_8 22 rfl rfl)
theorem dX5_next_207 : decode cX5_next 207 = .ok (.getfield 52, 3) := dk_180 0 52 (dk_at dksX5_next_9 0 rfl rfl)
theorem dX5_next_210 : decode cX5_next 210 = .ok (.invokevirtual 59, 3) := dk_182 0 59 (dk_at dksX5_next_9 3 rfl rfl)
theorem dX5_next_213 : decode cX5_next 213 = .ok (.iadd, 1) := dk_96 (dk_at dksX5_next_9 6 rfl rfl)
theorem dX5_next_214 : decode cX5_next 214 = .ok (.bipush 48, 2) := dk_16 48 (dk_at dksX5_next_9 7 rfl rfl)
theorem dX5_next_216 : decode cX5_next 216 = .ok (.isub, 1) := dk_100 (dk_at dksX5_next_9 9 rfl rfl)
theorem dX5_next_217 : decode cX5_next 217 = .ok (.goto 7, 3) := dk_167 0 7 (dk_at dksX5_next_9 10 rfl rfl)
theorem dX5_next_220 : decode cX5_next 220 = .ok (.aload_n 0, 1) := dk_42 (dk_at dksX5_next_9 13 rfl rfl)
theorem dX5_next_221 : decode cX5_next 221 = .ok (.getfield 63, 3) := dk_180 0 63 (dk_at dksX5_next_9 14 rfl rfl)
theorem dX5_next_224 : decode cX5_next 224 = .ok (.putfield 63, 3) := dk_181 0 63 (dk_at dksX5_next_9 17 rfl rfl)
theorem dX5_next_227 : decode cX5_next 227 = .ok (.aload_n 0, 1) := dk_42 (dk_at dksX5_next_9 20 rfl rfl)
theorem dX5_next_228 : decode cX5_next 228 = .ok (.dup, 1) := dk_89 (dk_at dksX5_next_9 21 rfl rfl)
theorem dX5_next_229 : decode cX5_next 229 = .ok (.getfield 52, 3) := dk_180 0 52 (dk_at dksX5_next_10 0 rfl rfl)
theorem dX5_next_232 : decode cX5_next 232 = .ok (.iconst 1, 1) := dk_4 (dk_at dksX5_next_10 3 rfl rfl)
theorem dX5_next_233 : decode cX5_next 233 = .ok (.iadd, 1) := dk_96 (dk_at dksX5_next_10 4 rfl rfl)
theorem dX5_next_234 : decode cX5_next 234 = .ok (.putfield 52, 3) := dk_181 0 52 (dk_at dksX5_next_10 5 rfl rfl)
theorem dX5_next_237 : decode cX5_next 237 = .ok (.goto (-74), 3) := dk_167 255 182 (dk_at dksX5_next_10 8 rfl rfl)
theorem dX5_next_240 : decode cX5_next 240 = .ok (.aload_n 0, 1) := dk_42 (dk_at dksX5_next_10 11 rfl rfl)
theorem dX5_next_241 : decode cX5_next 241 = .ok (.aload_n 0, 1) := dk_42 (dk_at dksX5_next_10 12 rfl rfl)
theorem dX5_next_242 : decode cX5_next 242 = .ok (.getfield 52, 3) := dk_180 0 52 (dk_at dksX5_next_10 13 rfl rfl)
theorem dX5_next_245 : decode cX5_next 245 = .ok (.aload_n 0, 1) := dk_42 (dk_at dksX5_next_10 16 rfl rfl)
theorem dX5_next_246 : decode cX5_next 246 = .ok (.getfield 37, 3) := dk_180 0 37 (dk_at dksX5_next_10 17 rfl rfl)
theorem dX5_next_249 : decode cX5_next 249 = .ok (.isub, 1) := dk_100 (dk_at dksX5_next_10 20 rfl rfl)
theorem dX5_next_250 : decode cX5_next 250 = .ok (.iconst 2, 1) := dk_5 (dk_at dksX5_next_10 21 rfl rfl)
theorem dX5_next_251 : decode cX5_next 251 = .ok (.if_icmp .gt 7, 3) := dk_163 0 7 (dk_at dksX5_next_11 0 rfl rfl)
theorem dX5_next_254 : decode cX5_next 254 = .ok (.iconst 1, 1) := dk_4 (dk_at dksX5_next_11 3 rfl rfl)
theorem dX5_next_255 : decode cX5_next 255 = .ok (.goto 4, 3) := dk_167 0 4 (dk_at dksX5_next_11 4 rfl rfl)
theorem dX5_next_258 : decode cX5_next 258 = .ok (.iconst 0, 1) := dk_3 (dk_at dksX5_next_11 7 rfl rfl)
theorem dX5_next_259 : decode cX5_next 259 = .ok (.iconst 1, 1) := dk_4 (dk_at dksX5_next_11 8 rfl rfl)
theorem dX5_next_260 : decode cX5_next 260 = .ok (.invokevirtual 78, 3) := dk_182 0 78 (dk_at dksX5_next_11 9 rfl rfl)
theorem dX5_next_263 : decode cX5_next 263 = .ok (.aload_n 0, 1) := dk_42 (dk_at dksX5_next_11 12 rfl rfl)
theorem dX5_next_264 : decode cX5_next 264 = .ok (.iconst 2, 1) := dk_5 (dk_at dksX5_next_11 13 rfl rfl)
theorem dX5_next_265 : decode cX5_next 265 = .ok (.putfield 43, 3) := dk_181 0 43 (dk_at dksX5_next_11 14 rfl rfl)
theorem dX5_next_268 : decode cX5_next 268 = .ok (.goto 24, 3) := dk_167 0 24 (dk_at dksX5_next_11 17 rfl rfl)
theorem dX5_next_271 : decode cX5_next 271 = .ok (.aload_n 0, 1) := dk_42 (dk_at dksX5_next_11 20 rfl rfl)
theorem dX5_next_272 : decode cX5_next 272 = .ok (.iload_n 1, 1) := dk_27 (dk_at dksX5_next_11 21 rfl rfl)
theorem dX5_next_273 : decode cX5_next 273 = .ok (.bipush 59, 2) := dk_16 59 (dk_at dksX5_next_11 22 rfl rfl)
theorem dX5_next_275 : decode cX5_next 275 = .ok (.if_icmp .ne 7, 3) := dk_160 0 7 (dk_at dksX5_next_12 0 rfl rfl)
theorem dX5_next_278 : decode cX5_next 278 = .ok (.iconst 1, 1) := dk_4 (dk_at dksX5_next_12 3 rfl rfl)
theorem dX5_next_279 : decode cX5_next 279 = .ok (.goto 4, 3) := dk_167 0 4 (dk_at dksX5_next_12 4 rfl rfl)
theorem dX5_next_282 : decode cX5_next 282 = .ok (.iconst 0, 1) := dk_3 (dk_at dksX5_next_12 7 rfl rfl)
theorem dX5_next_283 : decode cX5_next 283 = .ok (.iconst 1, 1) := dk_4 (dk_at dksX5_next_12 8 rfl rfl)
theorem dX5_next_284 : decode cX5_next 284 = .ok (.invokevirtual 78, 3) := dk_182 0 78 (dk_at dksX5_next_12 9 rfl rfl)
theorem dX5_next_287 : decode cX5_next 287 = .ok (.aload_n 0, 1) := dk_42 (dk_at dksX5_next_12 12 rfl rfl)
theorem dX5_next_288 : decode cX5_next 288 = .ok (.iconst 3, 1) := dk_6 (dk_at dksX5_next_12 13 rfl rfl)
theorem dX5_next_289 : decode cX5_next 289 = .ok (.putfield 43, 3) := dk_181 0 43 (dk_at dksX5_next_12 14 rfl rfl)
theorem dX5_next_292 : decode cX5_next 292 = .ok (.return_, 1) := dk_177 (dk_at dksX5_next_12 17 rfl rfl)
abbrev cX5_at : ByteArray := prog_7_method_2_code
def yX5_at : MethodName := ⟨RX5, "at", "(I)I"⟩
def dkwX5_at_0 : List UInt8 := [27, 42, 180, 0, 28, 190, 162, 0, 12, 42, 180, 0, 28, 27, 51, 167, 0, 5, 16, 252, 172]
abbrev dktX5_at_0 : List UInt8 := dkwX5_at_0 ++ []
theorem dksX5_at_0 : cX5_at.data.toList.drop 0 = dktX5_at_0 := by decide +kernel
theorem dX5_at_0 : decode cX5_at 0 = .ok (.iload_n 1, 1) := dk_27 (dk_at dksX5_at_0 0 rfl rfl)
theorem dX5_at_1 : decode cX5_at 1 = .ok (.aload_n 0, 1) := dk_42 (dk_at dksX5_at_0 1 rfl rfl)
theorem dX5_at_2 : decode cX5_at 2 = .ok (.getfield 28, 3) := dk_180 0 28 (dk_at dksX5_at_0 2 rfl rfl)
theorem dX5_at_5 : decode cX5_at 5 = .ok (.arraylength, 1) := dk_190 (dk_at dksX5_at_0 5 rfl rfl)
theorem dX5_at_6 : decode cX5_at 6 = .ok (.if_icmp .ge 12, 3) := dk_162 0 12 (dk_at dksX5_at_0 6 rfl rfl)
theorem dX5_at_9 : decode cX5_at 9 = .ok (.aload_n 0, 1) := dk_42 (dk_at dksX5_at_0 9 rfl rfl)
theorem dX5_at_10 : decode cX5_at 10 = .ok (.getfield 28, 3) := dk_180 0 28 (dk_at dksX5_at_0 10 rfl rfl)
theorem dX5_at_13 : decode cX5_at 13 = .ok (.iload_n 1, 1) := dk_27 (dk_at dksX5_at_0 13 rfl rfl)
theorem dX5_at_14 : decode cX5_at 14 = .ok (.baload, 1) := dk_51 (dk_at dksX5_at_0 14 rfl rfl)
theorem dX5_at_15 : decode cX5_at 15 = .ok (.goto 5, 3) := dk_167 0 5 (dk_at dksX5_at_0 15 rfl rfl)
theorem dX5_at_18 : decode cX5_at 18 = .ok (.bipush (-4), 2) := dk_16 252 (dk_at dksX5_at_0 18 rfl rfl)
theorem dX5_at_20 : decode cX5_at 20 = .ok (.ireturn, 1) := dk_172 (dk_at dksX5_at_0 20 rfl rfl)
abbrev cX5_must : ByteArray := prog_7_method_3_code
def yX5_must : MethodName := ⟨RX5, "must", "(ZI)V"⟩
def dkwX5_must_0 : List UInt8 := [27, 154, 0, 16, 187, 0, 35, 89, 28, 42, 180, 0, 37, 183, 0, 40, 191, 177]
abbrev dktX5_must_0 : List UInt8 := dkwX5_must_0 ++ []
theorem dksX5_must_0 : cX5_must.data.toList.drop 0 = dktX5_must_0 := by decide +kernel
theorem dX5_must_0 : decode cX5_must 0 = .ok (.iload_n 1, 1) := dk_27 (dk_at dksX5_must_0 0 rfl rfl)
theorem dX5_must_1 : decode cX5_must 1 = .ok (.ifCond .ne 16, 3) := dk_154 0 16 (dk_at dksX5_must_0 1 rfl rfl)
theorem dX5_must_4 : decode cX5_must 4 = .ok (.new 35, 3) := dk_187 0 35 (dk_at dksX5_must_0 4 rfl rfl)
theorem dX5_must_7 : decode cX5_must 7 = .ok (.dup, 1) := dk_89 (dk_at dksX5_must_0 7 rfl rfl)
theorem dX5_must_8 : decode cX5_must 8 = .ok (.iload_n 2, 1) := dk_28 (dk_at dksX5_must_0 8 rfl rfl)
theorem dX5_must_9 : decode cX5_must 9 = .ok (.aload_n 0, 1) := dk_42 (dk_at dksX5_must_0 9 rfl rfl)
theorem dX5_must_10 : decode cX5_must 10 = .ok (.getfield 37, 3) := dk_180 0 37 (dk_at dksX5_must_0 10 rfl rfl)
theorem dX5_must_13 : decode cX5_must 13 = .ok (.invokespecial 40, 3) := dk_183 0 40 (dk_at dksX5_must_0 13 rfl rfl)
theorem dX5_must_16 : decode cX5_must 16 = .ok (.athrow, 1) := dk_191 (dk_at dksX5_must_0 16 rfl rfl)
theorem dX5_must_17 : decode cX5_must 17 = .ok (.return_, 1) := dk_177 (dk_at dksX5_must_0 17 rfl rfl)
abbrev cX5_all : ByteArray := prog_7_method_14_code
def yX5_all : MethodName := ⟨RX5, "all", "()V"⟩
def dkwX5_all_3 : List UInt8 := [132, 1, 1, 167, 255, 222, 177]
abbrev dktX5_all_3 : List UInt8 := dkwX5_all_3 ++ []
def dkwX5_all_2 : List UInt8 := [180, 0, 12, 27, 182, 0, 185, 184, 0, 188, 6, 163, 0, 7, 4, 167, 0, 4, 3, 16, 7, 182, 0, 78]
abbrev dktX5_all_2 : List UInt8 := dkwX5_all_2 ++ dktX5_all_3
def dkwX5_all_1 : List UInt8 := [162, 0, 7, 4, 167, 0, 4, 3, 16, 6, 182, 0, 78, 3, 60, 27, 7, 162, 0, 35, 42, 42]
abbrev dktX5_all_1 : List UInt8 := dkwX5_all_1 ++ dktX5_all_2
def dkwX5_all_0 : List UInt8 := [42, 180, 0, 43, 153, 0, 10, 42, 182, 0, 182, 167, 255, 245, 42, 42, 180, 0, 24, 42, 180, 0, 134]
abbrev dktX5_all_0 : List UInt8 := dkwX5_all_0 ++ dktX5_all_1
theorem dksX5_all_0 : cX5_all.data.toList.drop 0 = dktX5_all_0 := by decide +kernel
theorem dksX5_all_1 : cX5_all.data.toList.drop 23 = dktX5_all_1 := dk_seg dksX5_all_0 23 rfl rfl
theorem dksX5_all_2 : cX5_all.data.toList.drop 45 = dktX5_all_2 := dk_seg dksX5_all_1 22 rfl rfl
theorem dksX5_all_3 : cX5_all.data.toList.drop 69 = dktX5_all_3 := dk_seg dksX5_all_2 24 rfl rfl
theorem dX5_all_0 : decode cX5_all 0 = .ok (.aload_n 0, 1) := dk_42 (dk_at dksX5_all_0 0 rfl rfl)
theorem dX5_all_1 : decode cX5_all 1 = .ok (.getfield 43, 3) := dk_180 0 43 (dk_at dksX5_all_0 1 rfl rfl)
theorem dX5_all_4 : decode cX5_all 4 = .ok (.ifCond .eq 10, 3) := dk_153 0 10 (dk_at dksX5_all_0 4 rfl rfl)
theorem dX5_all_7 : decode cX5_all 7 = .ok (.aload_n 0, 1) := dk_42 (dk_at dksX5_all_0 7 rfl rfl)
theorem dX5_all_8 : decode cX5_all 8 = .ok (.invokevirtual 182, 3) := dk_182 0 182 (dk_at dksX5_all_0 8 rfl rfl)
theorem dX5_all_11 : decode cX5_all 11 = .ok (.goto (-11), 3) := dk_167 255 245 (dk_at dksX5_all_0 11 rfl rfl)
theorem dX5_all_14 : decode cX5_all 14 = .ok (.aload_n 0, 1) := dk_42 (dk_at dksX5_all_0 14 rfl rfl)
theorem dX5_all_15 : decode cX5_all 15 = .ok (.aload_n 0, 1) := dk_42 (dk_at dksX5_all_0 15 rfl rfl)
theorem dX5_all_16 : decode cX5_all 16 = .ok (.getfield 24, 3) := dk_180 0 24 (dk_at dksX5_all_0 16 rfl rfl)
theorem dX5_all_19 : decode cX5_all 19 = .ok (.aload_n 0, 1) := dk_42 (dk_at dksX5_all_0 19 rfl rfl)
theorem dX5_all_20 : decode cX5_all 20 = .ok (.getfield 134, 3) := dk_180 0 134 (dk_at dksX5_all_0 20 rfl rfl)
theorem dX5_all_23 : decode cX5_all 23 = .ok (.if_icmp .ge 7, 3) := dk_162 0 7 (dk_at dksX5_all_1 0 rfl rfl)
theorem dX5_all_26 : decode cX5_all 26 = .ok (.iconst 1, 1) := dk_4 (dk_at dksX5_all_1 3 rfl rfl)
theorem dX5_all_27 : decode cX5_all 27 = .ok (.goto 4, 3) := dk_167 0 4 (dk_at dksX5_all_1 4 rfl rfl)
theorem dX5_all_30 : decode cX5_all 30 = .ok (.iconst 0, 1) := dk_3 (dk_at dksX5_all_1 7 rfl rfl)
theorem dX5_all_31 : decode cX5_all 31 = .ok (.bipush 6, 2) := dk_16 6 (dk_at dksX5_all_1 8 rfl rfl)
theorem dX5_all_33 : decode cX5_all 33 = .ok (.invokevirtual 78, 3) := dk_182 0 78 (dk_at dksX5_all_1 10 rfl rfl)
theorem dX5_all_36 : decode cX5_all 36 = .ok (.iconst 0, 1) := dk_3 (dk_at dksX5_all_1 13 rfl rfl)
theorem dX5_all_37 : decode cX5_all 37 = .ok (.istore_n 1, 1) := dk_60 (dk_at dksX5_all_1 14 rfl rfl)
theorem dX5_all_38 : decode cX5_all 38 = .ok (.iload_n 1, 1) := dk_27 (dk_at dksX5_all_1 15 rfl rfl)
theorem dX5_all_39 : decode cX5_all 39 = .ok (.iconst 4, 1) := dk_7 (dk_at dksX5_all_1 16 rfl rfl)
theorem dX5_all_40 : decode cX5_all 40 = .ok (.if_icmp .ge 35, 3) := dk_162 0 35 (dk_at dksX5_all_1 17 rfl rfl)
theorem dX5_all_43 : decode cX5_all 43 = .ok (.aload_n 0, 1) := dk_42 (dk_at dksX5_all_1 20 rfl rfl)
theorem dX5_all_44 : decode cX5_all 44 = .ok (.aload_n 0, 1) := dk_42 (dk_at dksX5_all_1 21 rfl rfl)
theorem dX5_all_45 : decode cX5_all 45 = .ok (.getfield 12, 3) := dk_180 0 12 (dk_at dksX5_all_2 0 rfl rfl)
theorem dX5_all_48 : decode cX5_all 48 = .ok (.iload_n 1, 1) := dk_27 (dk_at dksX5_all_2 3 rfl rfl)
theorem dX5_all_49 : decode cX5_all 49 = .ok (.invokevirtual 185, 3) := dk_182 0 185 (dk_at dksX5_all_2 4 rfl rfl)
theorem dX5_all_52 : decode cX5_all 52 = .ok (.invokestatic 188, 3) := dk_184 0 188 (dk_at dksX5_all_2 7 rfl rfl)
theorem dX5_all_55 : decode cX5_all 55 = .ok (.iconst 3, 1) := dk_6 (dk_at dksX5_all_2 10 rfl rfl)
theorem dX5_all_56 : decode cX5_all 56 = .ok (.if_icmp .gt 7, 3) := dk_163 0 7 (dk_at dksX5_all_2 11 rfl rfl)
theorem dX5_all_59 : decode cX5_all 59 = .ok (.iconst 1, 1) := dk_4 (dk_at dksX5_all_2 14 rfl rfl)
theorem dX5_all_60 : decode cX5_all 60 = .ok (.goto 4, 3) := dk_167 0 4 (dk_at dksX5_all_2 15 rfl rfl)
theorem dX5_all_63 : decode cX5_all 63 = .ok (.iconst 0, 1) := dk_3 (dk_at dksX5_all_2 18 rfl rfl)
theorem dX5_all_64 : decode cX5_all 64 = .ok (.bipush 7, 2) := dk_16 7 (dk_at dksX5_all_2 19 rfl rfl)
theorem dX5_all_66 : decode cX5_all 66 = .ok (.invokevirtual 78, 3) := dk_182 0 78 (dk_at dksX5_all_2 21 rfl rfl)
theorem dX5_all_69 : decode cX5_all 69 = .ok (.iinc 1 1, 3) := dk_132 1 1 (dk_at dksX5_all_3 0 rfl rfl)
theorem dX5_all_72 : decode cX5_all 72 = .ok (.goto (-34), 3) := dk_167 255 222 (dk_at dksX5_all_3 3 rfl rfl)
theorem dX5_all_75 : decode cX5_all 75 = .ok (.return_, 1) := dk_177 (dk_at dksX5_all_3 6 rfl rfl)
abbrev cX5_line : ByteArray := prog_7_method_13_code
def yX5_line : MethodName := ⟨RX5, "line", "()V"⟩
def dkwX5_line_5 : List UInt8 := [181, 0, 179, 42, 182, 0, 32, 177]
abbrev dktX5_line_5 : List UInt8 := dkwX5_line_5 ++ []
def dkwX5_line_4 : List UInt8 := [180, 0, 43, 6, 160, 0, 7, 4, 167, 0, 4, 3, 5, 182, 0, 78, 42, 89, 180, 0, 179, 4, 96]
abbrev dktX5_line_4 : List UInt8 := dkwX5_line_4 ++ dktX5_line_5
def dkwX5_line_3 : List UInt8 := [182, 0, 169, 167, 0, 19, 27, 7, 160, 0, 10, 42, 182, 0, 173, 167, 0, 7, 42, 182, 0, 176, 42, 42]
abbrev dktX5_line_3 : List UInt8 := dkwX5_line_3 ++ dktX5_line_4
def dkwX5_line_2 : List UInt8 := [178, 0, 161, 190, 162, 0, 7, 4, 167, 0, 4, 3, 5, 182, 0, 78, 27, 6, 163, 0, 11, 42, 27]
abbrev dktX5_line_2 : List UInt8 := dkwX5_line_2 ++ dktX5_line_3
def dkwX5_line_1 : List UInt8 := [190, 162, 0, 21, 42, 178, 0, 161, 27, 50, 182, 0, 165, 154, 0, 9, 132, 1, 1, 167, 255, 233, 42, 27]
abbrev dktX5_line_1 : List UInt8 := dkwX5_line_1 ++ dktX5_line_2
def dkwX5_line_0 : List UInt8 := [42, 42, 180, 0, 43, 4, 160, 0, 7, 4, 167, 0, 4, 3, 5, 182, 0, 78, 3, 60, 27, 178, 0, 161]
abbrev dktX5_line_0 : List UInt8 := dkwX5_line_0 ++ dktX5_line_1
theorem dksX5_line_0 : cX5_line.data.toList.drop 0 = dktX5_line_0 := by decide +kernel
theorem dksX5_line_1 : cX5_line.data.toList.drop 24 = dktX5_line_1 := dk_seg dksX5_line_0 24 rfl rfl
theorem dksX5_line_2 : cX5_line.data.toList.drop 48 = dktX5_line_2 := dk_seg dksX5_line_1 24 rfl rfl
theorem dksX5_line_3 : cX5_line.data.toList.drop 71 = dktX5_line_3 := dk_seg dksX5_line_2 23 rfl rfl
theorem dksX5_line_4 : cX5_line.data.toList.drop 95 = dktX5_line_4 := dk_seg dksX5_line_3 24 rfl rfl
theorem dksX5_line_5 : cX5_line.data.toList.drop 118 = dktX5_line_5 := dk_seg dksX5_line_4 23 rfl rfl
theorem dX5_line_0 : decode cX5_line 0 = .ok (.aload_n 0, 1) := dk_42 (dk_at dksX5_line_0 0 rfl rfl)
theorem dX5_line_1 : decode cX5_line 1 = .ok (.aload_n 0, 1) := dk_42 (dk_at dksX5_line_0 1 rfl rfl)
theorem dX5_line_2 : decode cX5_line 2 = .ok (.getfield 43, 3) := dk_180 0 43 (dk_at dksX5_line_0 2 rfl rfl)
theorem dX5_line_5 : decode cX5_line 5 = .ok (.iconst 1, 1) := dk_4 (dk_at dksX5_line_0 5 rfl rfl)
theorem dX5_line_6 : decode cX5_line 6 = .ok (.if_icmp .ne 7, 3) := dk_160 0 7 (dk_at dksX5_line_0 6 rfl rfl)
theorem dX5_line_9 : decode cX5_line 9 = .ok (.iconst 1, 1) := dk_4 (dk_at dksX5_line_0 9 rfl rfl)
theorem dX5_line_10 : decode cX5_line 10 = .ok (.goto 4, 3) := dk_167 0 4 (dk_at dksX5_line_0 10 rfl rfl)
theorem dX5_line_13 : decode cX5_line 13 = .ok (.iconst 0, 1) := dk_3 (dk_at dksX5_line_0 13 rfl rfl)
theorem dX5_line_14 : decode cX5_line 14 = .ok (.iconst 2, 1) := dk_5 (dk_at dksX5_line_0 14 rfl rfl)
theorem dX5_line_15 : decode cX5_line 15 = .ok (.invokevirtual 78, 3) := dk_182 0 78 (dk_at dksX5_line_0 15 rfl rfl)
theorem dX5_line_18 : decode cX5_line 18 = .ok (.iconst 0, 1) := dk_3 (dk_at dksX5_line_0 18 rfl rfl)
theorem dX5_line_19 : decode cX5_line 19 = .ok (.istore_n 1, 1) := dk_60 (dk_at dksX5_line_0 19 rfl rfl)
theorem dX5_line_20 : decode cX5_line 20 = .ok (.iload_n 1, 1) := dk_27 (dk_at dksX5_line_0 20 rfl rfl)
theorem dX5_line_21 : decode cX5_line 21 = .ok (.getstatic 161, 3) := dk_178 0 161 (dk_at dksX5_line_0 21 rfl rfl)
theorem dX5_line_24 : decode cX5_line 24 = .ok (.arraylength, 1) := dk_190 (dk_at dksX5_line_1 0 rfl rfl)
theorem dX5_line_25 : decode cX5_line 25 = .ok (.if_icmp .ge 21, 3) := dk_162 0 21 (dk_at dksX5_line_1 1 rfl rfl)
theorem dX5_line_28 : decode cX5_line 28 = .ok (.aload_n 0, 1) := dk_42 (dk_at dksX5_line_1 4 rfl rfl)
theorem dX5_line_29 : decode cX5_line 29 = .ok (.getstatic 161, 3) := dk_178 0 161 (dk_at dksX5_line_1 5 rfl rfl)
theorem dX5_line_32 : decode cX5_line 32 = .ok (.iload_n 1, 1) := dk_27 (dk_at dksX5_line_1 8 rfl rfl)
theorem dX5_line_33 : decode cX5_line 33 = .ok (.aaload, 1) := dk_50 (dk_at dksX5_line_1 9 rfl rfl)
theorem dX5_line_34 : decode cX5_line 34 = .ok (.invokevirtual 165, 3) := dk_182 0 165 (dk_at dksX5_line_1 10 rfl rfl)
theorem dX5_line_37 : decode cX5_line 37 = .ok (.ifCond .ne 9, 3) := dk_154 0 9 (dk_at dksX5_line_1 13 rfl rfl)
theorem dX5_line_40 : decode cX5_line 40 = .ok (.iinc 1 1, 3) := dk_132 1 1 (dk_at dksX5_line_1 16 rfl rfl)
theorem dX5_line_43 : decode cX5_line 43 = .ok (.goto (-23), 3) := dk_167 255 233 (dk_at dksX5_line_1 19 rfl rfl)
theorem dX5_line_46 : decode cX5_line 46 = .ok (.aload_n 0, 1) := dk_42 (dk_at dksX5_line_1 22 rfl rfl)
theorem dX5_line_47 : decode cX5_line 47 = .ok (.iload_n 1, 1) := dk_27 (dk_at dksX5_line_1 23 rfl rfl)
theorem dX5_line_48 : decode cX5_line 48 = .ok (.getstatic 161, 3) := dk_178 0 161 (dk_at dksX5_line_2 0 rfl rfl)
theorem dX5_line_51 : decode cX5_line 51 = .ok (.arraylength, 1) := dk_190 (dk_at dksX5_line_2 3 rfl rfl)
theorem dX5_line_52 : decode cX5_line 52 = .ok (.if_icmp .ge 7, 3) := dk_162 0 7 (dk_at dksX5_line_2 4 rfl rfl)
theorem dX5_line_55 : decode cX5_line 55 = .ok (.iconst 1, 1) := dk_4 (dk_at dksX5_line_2 7 rfl rfl)
theorem dX5_line_56 : decode cX5_line 56 = .ok (.goto 4, 3) := dk_167 0 4 (dk_at dksX5_line_2 8 rfl rfl)
theorem dX5_line_59 : decode cX5_line 59 = .ok (.iconst 0, 1) := dk_3 (dk_at dksX5_line_2 11 rfl rfl)
theorem dX5_line_60 : decode cX5_line 60 = .ok (.iconst 2, 1) := dk_5 (dk_at dksX5_line_2 12 rfl rfl)
theorem dX5_line_61 : decode cX5_line 61 = .ok (.invokevirtual 78, 3) := dk_182 0 78 (dk_at dksX5_line_2 13 rfl rfl)
theorem dX5_line_64 : decode cX5_line 64 = .ok (.iload_n 1, 1) := dk_27 (dk_at dksX5_line_2 16 rfl rfl)
theorem dX5_line_65 : decode cX5_line 65 = .ok (.iconst 3, 1) := dk_6 (dk_at dksX5_line_2 17 rfl rfl)
theorem dX5_line_66 : decode cX5_line 66 = .ok (.if_icmp .gt 11, 3) := dk_163 0 11 (dk_at dksX5_line_2 18 rfl rfl)
theorem dX5_line_69 : decode cX5_line 69 = .ok (.aload_n 0, 1) := dk_42 (dk_at dksX5_line_2 21 rfl rfl)
theorem dX5_line_70 : decode cX5_line 70 = .ok (.iload_n 1, 1) := dk_27 (dk_at dksX5_line_2 22 rfl rfl)
theorem dX5_line_71 : decode cX5_line 71 = .ok (.invokevirtual 169, 3) := dk_182 0 169 (dk_at dksX5_line_3 0 rfl rfl)
theorem dX5_line_74 : decode cX5_line 74 = .ok (.goto 19, 3) := dk_167 0 19 (dk_at dksX5_line_3 3 rfl rfl)
theorem dX5_line_77 : decode cX5_line 77 = .ok (.iload_n 1, 1) := dk_27 (dk_at dksX5_line_3 6 rfl rfl)
theorem dX5_line_78 : decode cX5_line 78 = .ok (.iconst 4, 1) := dk_7 (dk_at dksX5_line_3 7 rfl rfl)
theorem dX5_line_79 : decode cX5_line 79 = .ok (.if_icmp .ne 10, 3) := dk_160 0 10 (dk_at dksX5_line_3 8 rfl rfl)
theorem dX5_line_82 : decode cX5_line 82 = .ok (.aload_n 0, 1) := dk_42 (dk_at dksX5_line_3 11 rfl rfl)
theorem dX5_line_83 : decode cX5_line 83 = .ok (.invokevirtual 173, 3) := dk_182 0 173 (dk_at dksX5_line_3 12 rfl rfl)
theorem dX5_line_86 : decode cX5_line 86 = .ok (.goto 7, 3) := dk_167 0 7 (dk_at dksX5_line_3 15 rfl rfl)
theorem dX5_line_89 : decode cX5_line 89 = .ok (.aload_n 0, 1) := dk_42 (dk_at dksX5_line_3 18 rfl rfl)
theorem dX5_line_90 : decode cX5_line 90 = .ok (.invokevirtual 176, 3) := dk_182 0 176 (dk_at dksX5_line_3 19 rfl rfl)
theorem dX5_line_93 : decode cX5_line 93 = .ok (.aload_n 0, 1) := dk_42 (dk_at dksX5_line_3 22 rfl rfl)
theorem dX5_line_94 : decode cX5_line 94 = .ok (.aload_n 0, 1) := dk_42 (dk_at dksX5_line_3 23 rfl rfl)
theorem dX5_line_95 : decode cX5_line 95 = .ok (.getfield 43, 3) := dk_180 0 43 (dk_at dksX5_line_4 0 rfl rfl)
theorem dX5_line_98 : decode cX5_line 98 = .ok (.iconst 3, 1) := dk_6 (dk_at dksX5_line_4 3 rfl rfl)
theorem dX5_line_99 : decode cX5_line 99 = .ok (.if_icmp .ne 7, 3) := dk_160 0 7 (dk_at dksX5_line_4 4 rfl rfl)
theorem dX5_line_102 : decode cX5_line 102 = .ok (.iconst 1, 1) := dk_4 (dk_at dksX5_line_4 7 rfl rfl)
theorem dX5_line_103 : decode cX5_line 103 = .ok (.goto 4, 3) := dk_167 0 4 (dk_at dksX5_line_4 8 rfl rfl)
theorem dX5_line_106 : decode cX5_line 106 = .ok (.iconst 0, 1) := dk_3 (dk_at dksX5_line_4 11 rfl rfl)
theorem dX5_line_107 : decode cX5_line 107 = .ok (.iconst 2, 1) := dk_5 (dk_at dksX5_line_4 12 rfl rfl)
theorem dX5_line_108 : decode cX5_line 108 = .ok (.invokevirtual 78, 3) := dk_182 0 78 (dk_at dksX5_line_4 13 rfl rfl)
theorem dX5_line_111 : decode cX5_line 111 = .ok (.aload_n 0, 1) := dk_42 (dk_at dksX5_line_4 16 rfl rfl)
theorem dX5_line_112 : decode cX5_line 112 = .ok (.dup, 1) := dk_89 (dk_at dksX5_line_4 17 rfl rfl)
theorem dX5_line_113 : decode cX5_line 113 = .ok (.getfield 179, 3) := dk_180 0 179 (dk_at dksX5_line_4 18 rfl rfl)
theorem dX5_line_116 : decode cX5_line 116 = .ok (.iconst 1, 1) := dk_4 (dk_at dksX5_line_4 21 rfl rfl)
theorem dX5_line_117 : decode cX5_line 117 = .ok (.iadd, 1) := dk_96 (dk_at dksX5_line_4 22 rfl rfl)
theorem dX5_line_118 : decode cX5_line 118 = .ok (.putfield 179, 3) := dk_181 0 179 (dk_at dksX5_line_5 0 rfl rfl)
theorem dX5_line_121 : decode cX5_line 121 = .ok (.aload_n 0, 1) := dk_42 (dk_at dksX5_line_5 3 rfl rfl)
theorem dX5_line_122 : decode cX5_line 122 = .ok (.invokevirtual 32, 3) := dk_182 0 32 (dk_at dksX5_line_5 4 rfl rfl)
theorem dX5_line_125 : decode cX5_line 125 = .ok (.return_, 1) := dk_177 (dk_at dksX5_line_5 7 rfl rfl)
abbrev cX5_isWord : ByteArray := prog_7_method_4_code
def yX5_isWord : MethodName := ⟨RX5, "isWord", "(Ljava/lang/String;)Z"⟩
def dkwX5_isWord_3 : List UInt8 := [132, 3, 1, 167, 255, 217, 28, 172]
abbrev dktX5_isWord_3 : List UInt8 := dkwX5_isWord_3 ++ []
def dkwX5_isWord_2 : List UInt8 := [182, 0, 55, 42, 42, 180, 0, 37, 29, 96, 182, 0, 59, 160, 0, 7, 4, 167, 0, 4, 3, 61]
abbrev dktX5_isWord_2 : List UInt8 := dkwX5_isWord_2 ++ dktX5_isWord_3
def dkwX5_isWord_1 : List UInt8 := [4, 167, 0, 4, 3, 61, 3, 62, 29, 43, 182, 0, 46, 162, 0, 37, 28, 153, 0, 33, 43, 29]
abbrev dktX5_isWord_1 : List UInt8 := dkwX5_isWord_1 ++ dktX5_isWord_2
def dkwX5_isWord_0 : List UInt8 := [42, 180, 0, 43, 4, 160, 0, 23, 43, 182, 0, 46, 42, 180, 0, 52, 42, 180, 0, 37, 100, 160, 0, 7]
abbrev dktX5_isWord_0 : List UInt8 := dkwX5_isWord_0 ++ dktX5_isWord_1
theorem dksX5_isWord_0 : cX5_isWord.data.toList.drop 0 = dktX5_isWord_0 := by decide +kernel
theorem dksX5_isWord_1 : cX5_isWord.data.toList.drop 24 = dktX5_isWord_1 := dk_seg dksX5_isWord_0 24 rfl rfl
theorem dksX5_isWord_2 : cX5_isWord.data.toList.drop 46 = dktX5_isWord_2 := dk_seg dksX5_isWord_1 22 rfl rfl
theorem dksX5_isWord_3 : cX5_isWord.data.toList.drop 68 = dktX5_isWord_3 := dk_seg dksX5_isWord_2 22 rfl rfl
theorem dX5_isWord_0 : decode cX5_isWord 0 = .ok (.aload_n 0, 1) := dk_42 (dk_at dksX5_isWord_0 0 rfl rfl)
theorem dX5_isWord_1 : decode cX5_isWord 1 = .ok (.getfield 43, 3) := dk_180 0 43 (dk_at dksX5_isWord_0 1 rfl rfl)
theorem dX5_isWord_4 : decode cX5_isWord 4 = .ok (.iconst 1, 1) := dk_4 (dk_at dksX5_isWord_0 4 rfl rfl)
theorem dX5_isWord_5 : decode cX5_isWord 5 = .ok (.if_icmp .ne 23, 3) := dk_160 0 23 (dk_at dksX5_isWord_0 5 rfl rfl)
theorem dX5_isWord_8 : decode cX5_isWord 8 = .ok (.aload_n 1, 1) := dk_43 (dk_at dksX5_isWord_0 8 rfl rfl)
theorem dX5_isWord_9 : decode cX5_isWord 9 = .ok (.invokevirtual 46, 3) := dk_182 0 46 (dk_at dksX5_isWord_0 9 rfl rfl)
theorem dX5_isWord_12 : decode cX5_isWord 12 = .ok (.aload_n 0, 1) := dk_42 (dk_at dksX5_isWord_0 12 rfl rfl)
theorem dX5_isWord_13 : decode cX5_isWord 13 = .ok (.getfield 52, 3) := dk_180 0 52 (dk_at dksX5_isWord_0 13 rfl rfl)
theorem dX5_isWord_16 : decode cX5_isWord 16 = .ok (.aload_n 0, 1) := dk_42 (dk_at dksX5_isWord_0 16 rfl rfl)
theorem dX5_isWord_17 : decode cX5_isWord 17 = .ok (.getfield 37, 3) := dk_180 0 37 (dk_at dksX5_isWord_0 17 rfl rfl)
theorem dX5_isWord_20 : decode cX5_isWord 20 = .ok (.isub, 1) := dk_100 (dk_at dksX5_isWord_0 20 rfl rfl)
theorem dX5_isWord_21 : decode cX5_isWord 21 = .ok (.if_icmp .ne 7, 3) := dk_160 0 7 (dk_at dksX5_isWord_0 21 rfl rfl)
theorem dX5_isWord_24 : decode cX5_isWord 24 = .ok (.iconst 1, 1) := dk_4 (dk_at dksX5_isWord_1 0 rfl rfl)
theorem dX5_isWord_25 : decode cX5_isWord 25 = .ok (.goto 4, 3) := dk_167 0 4 (dk_at dksX5_isWord_1 1 rfl rfl)
theorem dX5_isWord_28 : decode cX5_isWord 28 = .ok (.iconst 0, 1) := dk_3 (dk_at dksX5_isWord_1 4 rfl rfl)
theorem dX5_isWord_29 : decode cX5_isWord 29 = .ok (.istore_n 2, 1) := dk_61 (dk_at dksX5_isWord_1 5 rfl rfl)
theorem dX5_isWord_30 : decode cX5_isWord 30 = .ok (.iconst 0, 1) := dk_3 (dk_at dksX5_isWord_1 6 rfl rfl)
theorem dX5_isWord_31 : decode cX5_isWord 31 = .ok (.istore_n 3, 1) := dk_62 (dk_at dksX5_isWord_1 7 rfl rfl)
theorem dX5_isWord_32 : decode cX5_isWord 32 = .ok (.iload_n 3, 1) := dk_29 (dk_at dksX5_isWord_1 8 rfl rfl)
theorem dX5_isWord_33 : decode cX5_isWord 33 = .ok (.aload_n 1, 1) := dk_43 (dk_at dksX5_isWord_1 9 rfl rfl)
theorem dX5_isWord_34 : decode cX5_isWord 34 = .ok (.invokevirtual 46, 3) := dk_182 0 46 (dk_at dksX5_isWord_1 10 rfl rfl)
theorem dX5_isWord_37 : decode cX5_isWord 37 = .ok (.if_icmp .ge 37, 3) := dk_162 0 37 (dk_at dksX5_isWord_1 13 rfl rfl)
theorem dX5_isWord_40 : decode cX5_isWord 40 = .ok (.iload_n 2, 1) := dk_28 (dk_at dksX5_isWord_1 16 rfl rfl)
theorem dX5_isWord_41 : decode cX5_isWord 41 = .ok (.ifCond .eq 33, 3) := dk_153 0 33 (dk_at dksX5_isWord_1 17 rfl rfl)
theorem dX5_isWord_44 : decode cX5_isWord 44 = .ok (.aload_n 1, 1) := dk_43 (dk_at dksX5_isWord_1 20 rfl rfl)
theorem dX5_isWord_45 : decode cX5_isWord 45 = .ok (.iload_n 3, 1) := dk_29 (dk_at dksX5_isWord_1 21 rfl rfl)
theorem dX5_isWord_46 : decode cX5_isWord 46 = .ok (.invokevirtual 55, 3) := dk_182 0 55 (dk_at dksX5_isWord_2 0 rfl rfl)
theorem dX5_isWord_49 : decode cX5_isWord 49 = .ok (.aload_n 0, 1) := dk_42 (dk_at dksX5_isWord_2 3 rfl rfl)
theorem dX5_isWord_50 : decode cX5_isWord 50 = .ok (.aload_n 0, 1) := dk_42 (dk_at dksX5_isWord_2 4 rfl rfl)
theorem dX5_isWord_51 : decode cX5_isWord 51 = .ok (.getfield 37, 3) := dk_180 0 37 (dk_at dksX5_isWord_2 5 rfl rfl)
theorem dX5_isWord_54 : decode cX5_isWord 54 = .ok (.iload_n 3, 1) := dk_29 (dk_at dksX5_isWord_2 8 rfl rfl)
theorem dX5_isWord_55 : decode cX5_isWord 55 = .ok (.iadd, 1) := dk_96 (dk_at dksX5_isWord_2 9 rfl rfl)
theorem dX5_isWord_56 : decode cX5_isWord 56 = .ok (.invokevirtual 59, 3) := dk_182 0 59 (dk_at dksX5_isWord_2 10 rfl rfl)
theorem dX5_isWord_59 : decode cX5_isWord 59 = .ok (.if_icmp .ne 7, 3) := dk_160 0 7 (dk_at dksX5_isWord_2 13 rfl rfl)
theorem dX5_isWord_62 : decode cX5_isWord 62 = .ok (.iconst 1, 1) := dk_4 (dk_at dksX5_isWord_2 16 rfl rfl)
theorem dX5_isWord_63 : decode cX5_isWord 63 = .ok (.goto 4, 3) := dk_167 0 4 (dk_at dksX5_isWord_2 17 rfl rfl)
theorem dX5_isWord_66 : decode cX5_isWord 66 = .ok (.iconst 0, 1) := dk_3 (dk_at dksX5_isWord_2 20 rfl rfl)
theorem dX5_isWord_67 : decode cX5_isWord 67 = .ok (.istore_n 2, 1) := dk_61 (dk_at dksX5_isWord_2 21 rfl rfl)
theorem dX5_isWord_68 : decode cX5_isWord 68 = .ok (.iinc 3 1, 3) := dk_132 3 1 (dk_at dksX5_isWord_3 0 rfl rfl)
theorem dX5_isWord_71 : decode cX5_isWord 71 = .ok (.goto (-39), 3) := dk_167 255 217 (dk_at dksX5_isWord_3 3 rfl rfl)
theorem dX5_isWord_74 : decode cX5_isWord 74 = .ok (.iload_n 2, 1) := dk_28 (dk_at dksX5_isWord_3 6 rfl rfl)
theorem dX5_isWord_75 : decode cX5_isWord 75 = .ok (.ireturn, 1) := dk_172 (dk_at dksX5_isWord_3 7 rfl rfl)
abbrev cX5_echoOf : ByteArray := prog_7_method_10_code
def yX5_echoOf : MethodName := ⟨RX5, "echoOf", "(I)V"⟩
def dkwX5_echoOf_5 : List UInt8 := [181, 0, 24, 42, 180, 0, 12, 89, 180, 0, 101, 4, 96, 181, 0, 101, 177]
abbrev dktX5_echoOf_5 : List UInt8 := dkwX5_echoOf_5 ++ []
def dkwX5_echoOf_4 : List UInt8 := [3, 6, 182, 0, 122, 79, 42, 42, 180, 0, 24, 42, 180, 0, 12, 180, 0, 126, 28, 46, 184, 0, 129]
abbrev dktX5_echoOf_4 : List UInt8 := dkwX5_echoOf_4 ++ dktX5_echoOf_5
def dkwX5_echoOf_3 : List UInt8 := [180, 0, 12, 180, 0, 119, 28, 42, 3, 16, 99, 182, 0, 122, 79, 42, 180, 0, 12, 180, 0, 126, 28, 42]
abbrev dktX5_echoOf_3 : List UInt8 := dkwX5_echoOf_3 ++ dktX5_echoOf_4
def dkwX5_echoOf_2 : List UInt8 := [180, 0, 12, 180, 0, 108, 28, 42, 42, 180, 0, 12, 180, 0, 111, 28, 50, 182, 0, 115, 79, 42]
abbrev dktX5_echoOf_2 : List UInt8 := dkwX5_echoOf_2 ++ dktX5_echoOf_3
def dkwX5_echoOf_1 : List UInt8 := [182, 0, 32, 42, 180, 0, 12, 180, 0, 101, 61, 42, 180, 0, 12, 180, 0, 104, 28, 27, 79, 42]
abbrev dktX5_echoOf_1 : List UInt8 := dkwX5_echoOf_1 ++ dktX5_echoOf_2
def dkwX5_echoOf_0 : List UInt8 := [42, 42, 180, 0, 12, 180, 0, 101, 8, 162, 0, 7, 4, 167, 0, 4, 3, 8, 182, 0, 78, 42]
abbrev dktX5_echoOf_0 : List UInt8 := dkwX5_echoOf_0 ++ dktX5_echoOf_1
theorem dksX5_echoOf_0 : cX5_echoOf.data.toList.drop 0 = dktX5_echoOf_0 := by decide +kernel
theorem dksX5_echoOf_1 : cX5_echoOf.data.toList.drop 22 = dktX5_echoOf_1 := dk_seg dksX5_echoOf_0 22 rfl rfl
theorem dksX5_echoOf_2 : cX5_echoOf.data.toList.drop 44 = dktX5_echoOf_2 := dk_seg dksX5_echoOf_1 22 rfl rfl
theorem dksX5_echoOf_3 : cX5_echoOf.data.toList.drop 66 = dktX5_echoOf_3 := dk_seg dksX5_echoOf_2 22 rfl rfl
theorem dksX5_echoOf_4 : cX5_echoOf.data.toList.drop 90 = dktX5_echoOf_4 := dk_seg dksX5_echoOf_3 24 rfl rfl
theorem dksX5_echoOf_5 : cX5_echoOf.data.toList.drop 113 = dktX5_echoOf_5 := dk_seg dksX5_echoOf_4 23 rfl rfl
theorem dX5_echoOf_0 : decode cX5_echoOf 0 = .ok (.aload_n 0, 1) := dk_42 (dk_at dksX5_echoOf_0 0 rfl rfl)
theorem dX5_echoOf_1 : decode cX5_echoOf 1 = .ok (.aload_n 0, 1) := dk_42 (dk_at dksX5_echoOf_0 1 rfl rfl)
theorem dX5_echoOf_2 : decode cX5_echoOf 2 = .ok (.getfield 12, 3) := dk_180 0 12 (dk_at dksX5_echoOf_0 2 rfl rfl)
theorem dX5_echoOf_5 : decode cX5_echoOf 5 = .ok (.getfield 101, 3) := dk_180 0 101 (dk_at dksX5_echoOf_0 5 rfl rfl)
theorem dX5_echoOf_8 : decode cX5_echoOf 8 = .ok (.iconst 5, 1) := dk_8 (dk_at dksX5_echoOf_0 8 rfl rfl)
theorem dX5_echoOf_9 : decode cX5_echoOf 9 = .ok (.if_icmp .ge 7, 3) := dk_162 0 7 (dk_at dksX5_echoOf_0 9 rfl rfl)
theorem dX5_echoOf_12 : decode cX5_echoOf 12 = .ok (.iconst 1, 1) := dk_4 (dk_at dksX5_echoOf_0 12 rfl rfl)
theorem dX5_echoOf_13 : decode cX5_echoOf 13 = .ok (.goto 4, 3) := dk_167 0 4 (dk_at dksX5_echoOf_0 13 rfl rfl)
theorem dX5_echoOf_16 : decode cX5_echoOf 16 = .ok (.iconst 0, 1) := dk_3 (dk_at dksX5_echoOf_0 16 rfl rfl)
theorem dX5_echoOf_17 : decode cX5_echoOf 17 = .ok (.iconst 5, 1) := dk_8 (dk_at dksX5_echoOf_0 17 rfl rfl)
theorem dX5_echoOf_18 : decode cX5_echoOf 18 = .ok (.invokevirtual 78, 3) := dk_182 0 78 (dk_at dksX5_echoOf_0 18 rfl rfl)
theorem dX5_echoOf_21 : decode cX5_echoOf 21 = .ok (.aload_n 0, 1) := dk_42 (dk_at dksX5_echoOf_0 21 rfl rfl)
theorem dX5_echoOf_22 : decode cX5_echoOf 22 = .ok (.invokevirtual 32, 3) := dk_182 0 32 (dk_at dksX5_echoOf_1 0 rfl rfl)
theorem dX5_echoOf_25 : decode cX5_echoOf 25 = .ok (.aload_n 0, 1) := dk_42 (dk_at dksX5_echoOf_1 3 rfl rfl)
theorem dX5_echoOf_26 : decode cX5_echoOf 26 = .ok (.getfield 12, 3) := dk_180 0 12 (dk_at dksX5_echoOf_1 4 rfl rfl)
theorem dX5_echoOf_29 : decode cX5_echoOf 29 = .ok (.getfield 101, 3) := dk_180 0 101 (dk_at dksX5_echoOf_1 7 rfl rfl)
theorem dX5_echoOf_32 : decode cX5_echoOf 32 = .ok (.istore_n 2, 1) := dk_61 (dk_at dksX5_echoOf_1 10 rfl rfl)
theorem dX5_echoOf_33 : decode cX5_echoOf 33 = .ok (.aload_n 0, 1) := dk_42 (dk_at dksX5_echoOf_1 11 rfl rfl)
theorem dX5_echoOf_34 : decode cX5_echoOf 34 = .ok (.getfield 12, 3) := dk_180 0 12 (dk_at dksX5_echoOf_1 12 rfl rfl)
theorem dX5_echoOf_37 : decode cX5_echoOf 37 = .ok (.getfield 104, 3) := dk_180 0 104 (dk_at dksX5_echoOf_1 15 rfl rfl)
theorem dX5_echoOf_40 : decode cX5_echoOf 40 = .ok (.iload_n 2, 1) := dk_28 (dk_at dksX5_echoOf_1 18 rfl rfl)
theorem dX5_echoOf_41 : decode cX5_echoOf 41 = .ok (.iload_n 1, 1) := dk_27 (dk_at dksX5_echoOf_1 19 rfl rfl)
theorem dX5_echoOf_42 : decode cX5_echoOf 42 = .ok (.iastore, 1) := dk_79 (dk_at dksX5_echoOf_1 20 rfl rfl)
theorem dX5_echoOf_43 : decode cX5_echoOf 43 = .ok (.aload_n 0, 1) := dk_42 (dk_at dksX5_echoOf_1 21 rfl rfl)
theorem dX5_echoOf_44 : decode cX5_echoOf 44 = .ok (.getfield 12, 3) := dk_180 0 12 (dk_at dksX5_echoOf_2 0 rfl rfl)
theorem dX5_echoOf_47 : decode cX5_echoOf 47 = .ok (.getfield 108, 3) := dk_180 0 108 (dk_at dksX5_echoOf_2 3 rfl rfl)
theorem dX5_echoOf_50 : decode cX5_echoOf 50 = .ok (.iload_n 2, 1) := dk_28 (dk_at dksX5_echoOf_2 6 rfl rfl)
theorem dX5_echoOf_51 : decode cX5_echoOf 51 = .ok (.aload_n 0, 1) := dk_42 (dk_at dksX5_echoOf_2 7 rfl rfl)
theorem dX5_echoOf_52 : decode cX5_echoOf 52 = .ok (.aload_n 0, 1) := dk_42 (dk_at dksX5_echoOf_2 8 rfl rfl)
theorem dX5_echoOf_53 : decode cX5_echoOf 53 = .ok (.getfield 12, 3) := dk_180 0 12 (dk_at dksX5_echoOf_2 9 rfl rfl)
theorem dX5_echoOf_56 : decode cX5_echoOf 56 = .ok (.getfield 111, 3) := dk_180 0 111 (dk_at dksX5_echoOf_2 12 rfl rfl)
theorem dX5_echoOf_59 : decode cX5_echoOf 59 = .ok (.iload_n 2, 1) := dk_28 (dk_at dksX5_echoOf_2 15 rfl rfl)
theorem dX5_echoOf_60 : decode cX5_echoOf 60 = .ok (.aaload, 1) := dk_50 (dk_at dksX5_echoOf_2 16 rfl rfl)
theorem dX5_echoOf_61 : decode cX5_echoOf 61 = .ok (.invokevirtual 115, 3) := dk_182 0 115 (dk_at dksX5_echoOf_2 17 rfl rfl)
theorem dX5_echoOf_64 : decode cX5_echoOf 64 = .ok (.iastore, 1) := dk_79 (dk_at dksX5_echoOf_2 20 rfl rfl)
theorem dX5_echoOf_65 : decode cX5_echoOf 65 = .ok (.aload_n 0, 1) := dk_42 (dk_at dksX5_echoOf_2 21 rfl rfl)
theorem dX5_echoOf_66 : decode cX5_echoOf 66 = .ok (.getfield 12, 3) := dk_180 0 12 (dk_at dksX5_echoOf_3 0 rfl rfl)
theorem dX5_echoOf_69 : decode cX5_echoOf 69 = .ok (.getfield 119, 3) := dk_180 0 119 (dk_at dksX5_echoOf_3 3 rfl rfl)
theorem dX5_echoOf_72 : decode cX5_echoOf 72 = .ok (.iload_n 2, 1) := dk_28 (dk_at dksX5_echoOf_3 6 rfl rfl)
theorem dX5_echoOf_73 : decode cX5_echoOf 73 = .ok (.aload_n 0, 1) := dk_42 (dk_at dksX5_echoOf_3 7 rfl rfl)
theorem dX5_echoOf_74 : decode cX5_echoOf 74 = .ok (.iconst 0, 1) := dk_3 (dk_at dksX5_echoOf_3 8 rfl rfl)
theorem dX5_echoOf_75 : decode cX5_echoOf 75 = .ok (.bipush 99, 2) := dk_16 99 (dk_at dksX5_echoOf_3 9 rfl rfl)
theorem dX5_echoOf_77 : decode cX5_echoOf 77 = .ok (.invokevirtual 122, 3) := dk_182 0 122 (dk_at dksX5_echoOf_3 11 rfl rfl)
theorem dX5_echoOf_80 : decode cX5_echoOf 80 = .ok (.iastore, 1) := dk_79 (dk_at dksX5_echoOf_3 14 rfl rfl)
theorem dX5_echoOf_81 : decode cX5_echoOf 81 = .ok (.aload_n 0, 1) := dk_42 (dk_at dksX5_echoOf_3 15 rfl rfl)
theorem dX5_echoOf_82 : decode cX5_echoOf 82 = .ok (.getfield 12, 3) := dk_180 0 12 (dk_at dksX5_echoOf_3 16 rfl rfl)
theorem dX5_echoOf_85 : decode cX5_echoOf 85 = .ok (.getfield 126, 3) := dk_180 0 126 (dk_at dksX5_echoOf_3 19 rfl rfl)
theorem dX5_echoOf_88 : decode cX5_echoOf 88 = .ok (.iload_n 2, 1) := dk_28 (dk_at dksX5_echoOf_3 22 rfl rfl)
theorem dX5_echoOf_89 : decode cX5_echoOf 89 = .ok (.aload_n 0, 1) := dk_42 (dk_at dksX5_echoOf_3 23 rfl rfl)
theorem dX5_echoOf_90 : decode cX5_echoOf 90 = .ok (.iconst 0, 1) := dk_3 (dk_at dksX5_echoOf_4 0 rfl rfl)
theorem dX5_echoOf_91 : decode cX5_echoOf 91 = .ok (.iconst 3, 1) := dk_6 (dk_at dksX5_echoOf_4 1 rfl rfl)
theorem dX5_echoOf_92 : decode cX5_echoOf 92 = .ok (.invokevirtual 122, 3) := dk_182 0 122 (dk_at dksX5_echoOf_4 2 rfl rfl)
theorem dX5_echoOf_95 : decode cX5_echoOf 95 = .ok (.iastore, 1) := dk_79 (dk_at dksX5_echoOf_4 5 rfl rfl)
theorem dX5_echoOf_96 : decode cX5_echoOf 96 = .ok (.aload_n 0, 1) := dk_42 (dk_at dksX5_echoOf_4 6 rfl rfl)
theorem dX5_echoOf_97 : decode cX5_echoOf 97 = .ok (.aload_n 0, 1) := dk_42 (dk_at dksX5_echoOf_4 7 rfl rfl)
theorem dX5_echoOf_98 : decode cX5_echoOf 98 = .ok (.getfield 24, 3) := dk_180 0 24 (dk_at dksX5_echoOf_4 8 rfl rfl)
theorem dX5_echoOf_101 : decode cX5_echoOf 101 = .ok (.aload_n 0, 1) := dk_42 (dk_at dksX5_echoOf_4 11 rfl rfl)
theorem dX5_echoOf_102 : decode cX5_echoOf 102 = .ok (.getfield 12, 3) := dk_180 0 12 (dk_at dksX5_echoOf_4 12 rfl rfl)
theorem dX5_echoOf_105 : decode cX5_echoOf 105 = .ok (.getfield 126, 3) := dk_180 0 126 (dk_at dksX5_echoOf_4 15 rfl rfl)
theorem dX5_echoOf_108 : decode cX5_echoOf 108 = .ok (.iload_n 2, 1) := dk_28 (dk_at dksX5_echoOf_4 18 rfl rfl)
theorem dX5_echoOf_109 : decode cX5_echoOf 109 = .ok (.iaload, 1) := dk_46 (dk_at dksX5_echoOf_4 19 rfl rfl)
theorem dX5_echoOf_110 : decode cX5_echoOf 110 = .ok (.invokestatic 129, 3) := dk_184 0 129 (dk_at dksX5_echoOf_4 20 rfl rfl)
theorem dX5_echoOf_113 : decode cX5_echoOf 113 = .ok (.putfield 24, 3) := dk_181 0 24 (dk_at dksX5_echoOf_5 0 rfl rfl)
theorem dX5_echoOf_116 : decode cX5_echoOf 116 = .ok (.aload_n 0, 1) := dk_42 (dk_at dksX5_echoOf_5 3 rfl rfl)
theorem dX5_echoOf_117 : decode cX5_echoOf 117 = .ok (.getfield 12, 3) := dk_180 0 12 (dk_at dksX5_echoOf_5 4 rfl rfl)
theorem dX5_echoOf_120 : decode cX5_echoOf 120 = .ok (.dup, 1) := dk_89 (dk_at dksX5_echoOf_5 7 rfl rfl)
theorem dX5_echoOf_121 : decode cX5_echoOf 121 = .ok (.getfield 101, 3) := dk_180 0 101 (dk_at dksX5_echoOf_5 8 rfl rfl)
theorem dX5_echoOf_124 : decode cX5_echoOf 124 = .ok (.iconst 1, 1) := dk_4 (dk_at dksX5_echoOf_5 11 rfl rfl)
theorem dX5_echoOf_125 : decode cX5_echoOf 125 = .ok (.iadd, 1) := dk_96 (dk_at dksX5_echoOf_5 12 rfl rfl)
theorem dX5_echoOf_126 : decode cX5_echoOf 126 = .ok (.putfield 101, 3) := dk_181 0 101 (dk_at dksX5_echoOf_5 13 rfl rfl)
theorem dX5_echoOf_129 : decode cX5_echoOf 129 = .ok (.return_, 1) := dk_177 (dk_at dksX5_echoOf_5 16 rfl rfl)
abbrev cX5_wordInto : ByteArray := prog_7_method_8_code
def yX5_wordInto : MethodName := ⟨RX5, "wordInto", "([B)I"⟩
def dkwX5_wordInto_3 : List UInt8 := [172]
abbrev dktX5_wordInto_3 : List UInt8 := dkwX5_wordInto_3 ++ []
def dkwX5_wordInto_2 : List UInt8 := [180, 0, 37, 100, 61, 42, 180, 0, 28, 42, 180, 0, 37, 43, 3, 28, 184, 0, 90, 42, 182, 0, 32, 28]
abbrev dktX5_wordInto_2 : List UInt8 := dkwX5_wordInto_2 ++ dktX5_wordInto_3
def dkwX5_wordInto_1 : List UInt8 := [180, 0, 37, 100, 8, 163, 0, 7, 4, 167, 0, 4, 3, 6, 182, 0, 78, 42, 180, 0, 52, 42]
abbrev dktX5_wordInto_1 : List UInt8 := dkwX5_wordInto_1 ++ dktX5_wordInto_2
def dkwX5_wordInto_0 : List UInt8 := [42, 42, 180, 0, 43, 4, 160, 0, 7, 4, 167, 0, 4, 3, 5, 182, 0, 78, 42, 42, 180, 0, 52, 42]
abbrev dktX5_wordInto_0 : List UInt8 := dkwX5_wordInto_0 ++ dktX5_wordInto_1
theorem dksX5_wordInto_0 : cX5_wordInto.data.toList.drop 0 = dktX5_wordInto_0 := by decide +kernel
theorem dksX5_wordInto_1 : cX5_wordInto.data.toList.drop 24 = dktX5_wordInto_1 := dk_seg dksX5_wordInto_0 24 rfl rfl
theorem dksX5_wordInto_2 : cX5_wordInto.data.toList.drop 46 = dktX5_wordInto_2 := dk_seg dksX5_wordInto_1 22 rfl rfl
theorem dksX5_wordInto_3 : cX5_wordInto.data.toList.drop 70 = dktX5_wordInto_3 := dk_seg dksX5_wordInto_2 24 rfl rfl
theorem dX5_wordInto_0 : decode cX5_wordInto 0 = .ok (.aload_n 0, 1) := dk_42 (dk_at dksX5_wordInto_0 0 rfl rfl)
theorem dX5_wordInto_1 : decode cX5_wordInto 1 = .ok (.aload_n 0, 1) := dk_42 (dk_at dksX5_wordInto_0 1 rfl rfl)
theorem dX5_wordInto_2 : decode cX5_wordInto 2 = .ok (.getfield 43, 3) := dk_180 0 43 (dk_at dksX5_wordInto_0 2 rfl rfl)
theorem dX5_wordInto_5 : decode cX5_wordInto 5 = .ok (.iconst 1, 1) := dk_4 (dk_at dksX5_wordInto_0 5 rfl rfl)
theorem dX5_wordInto_6 : decode cX5_wordInto 6 = .ok (.if_icmp .ne 7, 3) := dk_160 0 7 (dk_at dksX5_wordInto_0 6 rfl rfl)
theorem dX5_wordInto_9 : decode cX5_wordInto 9 = .ok (.iconst 1, 1) := dk_4 (dk_at dksX5_wordInto_0 9 rfl rfl)
theorem dX5_wordInto_10 : decode cX5_wordInto 10 = .ok (.goto 4, 3) := dk_167 0 4 (dk_at dksX5_wordInto_0 10 rfl rfl)
theorem dX5_wordInto_13 : decode cX5_wordInto 13 = .ok (.iconst 0, 1) := dk_3 (dk_at dksX5_wordInto_0 13 rfl rfl)
theorem dX5_wordInto_14 : decode cX5_wordInto 14 = .ok (.iconst 2, 1) := dk_5 (dk_at dksX5_wordInto_0 14 rfl rfl)
theorem dX5_wordInto_15 : decode cX5_wordInto 15 = .ok (.invokevirtual 78, 3) := dk_182 0 78 (dk_at dksX5_wordInto_0 15 rfl rfl)
theorem dX5_wordInto_18 : decode cX5_wordInto 18 = .ok (.aload_n 0, 1) := dk_42 (dk_at dksX5_wordInto_0 18 rfl rfl)
theorem dX5_wordInto_19 : decode cX5_wordInto 19 = .ok (.aload_n 0, 1) := dk_42 (dk_at dksX5_wordInto_0 19 rfl rfl)
theorem dX5_wordInto_20 : decode cX5_wordInto 20 = .ok (.getfield 52, 3) := dk_180 0 52 (dk_at dksX5_wordInto_0 20 rfl rfl)
theorem dX5_wordInto_23 : decode cX5_wordInto 23 = .ok (.aload_n 0, 1) := dk_42 (dk_at dksX5_wordInto_0 23 rfl rfl)
theorem dX5_wordInto_24 : decode cX5_wordInto 24 = .ok (.getfield 37, 3) := dk_180 0 37 (dk_at dksX5_wordInto_1 0 rfl rfl)
theorem dX5_wordInto_27 : decode cX5_wordInto 27 = .ok (.isub, 1) := dk_100 (dk_at dksX5_wordInto_1 3 rfl rfl)
theorem dX5_wordInto_28 : decode cX5_wordInto 28 = .ok (.iconst 5, 1) := dk_8 (dk_at dksX5_wordInto_1 4 rfl rfl)
theorem dX5_wordInto_29 : decode cX5_wordInto 29 = .ok (.if_icmp .gt 7, 3) := dk_163 0 7 (dk_at dksX5_wordInto_1 5 rfl rfl)
theorem dX5_wordInto_32 : decode cX5_wordInto 32 = .ok (.iconst 1, 1) := dk_4 (dk_at dksX5_wordInto_1 8 rfl rfl)
theorem dX5_wordInto_33 : decode cX5_wordInto 33 = .ok (.goto 4, 3) := dk_167 0 4 (dk_at dksX5_wordInto_1 9 rfl rfl)
theorem dX5_wordInto_36 : decode cX5_wordInto 36 = .ok (.iconst 0, 1) := dk_3 (dk_at dksX5_wordInto_1 12 rfl rfl)
theorem dX5_wordInto_37 : decode cX5_wordInto 37 = .ok (.iconst 3, 1) := dk_6 (dk_at dksX5_wordInto_1 13 rfl rfl)
theorem dX5_wordInto_38 : decode cX5_wordInto 38 = .ok (.invokevirtual 78, 3) := dk_182 0 78 (dk_at dksX5_wordInto_1 14 rfl rfl)
theorem dX5_wordInto_41 : decode cX5_wordInto 41 = .ok (.aload_n 0, 1) := dk_42 (dk_at dksX5_wordInto_1 17 rfl rfl)
theorem dX5_wordInto_42 : decode cX5_wordInto 42 = .ok (.getfield 52, 3) := dk_180 0 52 (dk_at dksX5_wordInto_1 18 rfl rfl)
theorem dX5_wordInto_45 : decode cX5_wordInto 45 = .ok (.aload_n 0, 1) := dk_42 (dk_at dksX5_wordInto_1 21 rfl rfl)
theorem dX5_wordInto_46 : decode cX5_wordInto 46 = .ok (.getfield 37, 3) := dk_180 0 37 (dk_at dksX5_wordInto_2 0 rfl rfl)
theorem dX5_wordInto_49 : decode cX5_wordInto 49 = .ok (.isub, 1) := dk_100 (dk_at dksX5_wordInto_2 3 rfl rfl)
theorem dX5_wordInto_50 : decode cX5_wordInto 50 = .ok (.istore_n 2, 1) := dk_61 (dk_at dksX5_wordInto_2 4 rfl rfl)
theorem dX5_wordInto_51 : decode cX5_wordInto 51 = .ok (.aload_n 0, 1) := dk_42 (dk_at dksX5_wordInto_2 5 rfl rfl)
theorem dX5_wordInto_52 : decode cX5_wordInto 52 = .ok (.getfield 28, 3) := dk_180 0 28 (dk_at dksX5_wordInto_2 6 rfl rfl)
theorem dX5_wordInto_55 : decode cX5_wordInto 55 = .ok (.aload_n 0, 1) := dk_42 (dk_at dksX5_wordInto_2 9 rfl rfl)
theorem dX5_wordInto_56 : decode cX5_wordInto 56 = .ok (.getfield 37, 3) := dk_180 0 37 (dk_at dksX5_wordInto_2 10 rfl rfl)
theorem dX5_wordInto_59 : decode cX5_wordInto 59 = .ok (.aload_n 1, 1) := dk_43 (dk_at dksX5_wordInto_2 13 rfl rfl)
theorem dX5_wordInto_60 : decode cX5_wordInto 60 = .ok (.iconst 0, 1) := dk_3 (dk_at dksX5_wordInto_2 14 rfl rfl)
theorem dX5_wordInto_61 : decode cX5_wordInto 61 = .ok (.iload_n 2, 1) := dk_28 (dk_at dksX5_wordInto_2 15 rfl rfl)
theorem dX5_wordInto_62 : decode cX5_wordInto 62 = .ok (.invokestatic 90, 3) := dk_184 0 90 (dk_at dksX5_wordInto_2 16 rfl rfl)
theorem dX5_wordInto_65 : decode cX5_wordInto 65 = .ok (.aload_n 0, 1) := dk_42 (dk_at dksX5_wordInto_2 19 rfl rfl)
theorem dX5_wordInto_66 : decode cX5_wordInto 66 = .ok (.invokevirtual 32, 3) := dk_182 0 32 (dk_at dksX5_wordInto_2 20 rfl rfl)
theorem dX5_wordInto_69 : decode cX5_wordInto 69 = .ok (.iload_n 2, 1) := dk_28 (dk_at dksX5_wordInto_2 23 rfl rfl)
theorem dX5_wordInto_70 : decode cX5_wordInto 70 = .ok (.ireturn, 1) := dk_172 (dk_at dksX5_wordInto_3 0 rfl rfl)
abbrev cX5_number : ByteArray := prog_7_method_7_code
def yX5_number : MethodName := ⟨RX5, "number", "(II)I"⟩
def dkwX5_number_0 : List UInt8 := [42, 27, 28, 3, 182, 0, 86, 172]
abbrev dktX5_number_0 : List UInt8 := dkwX5_number_0 ++ []
theorem dksX5_number_0 : cX5_number.data.toList.drop 0 = dktX5_number_0 := by decide +kernel
theorem dX5_number_0 : decode cX5_number 0 = .ok (.aload_n 0, 1) := dk_42 (dk_at dksX5_number_0 0 rfl rfl)
theorem dX5_number_1 : decode cX5_number 1 = .ok (.iload_n 1, 1) := dk_27 (dk_at dksX5_number_0 1 rfl rfl)
theorem dX5_number_2 : decode cX5_number 2 = .ok (.iload_n 2, 1) := dk_28 (dk_at dksX5_number_0 2 rfl rfl)
theorem dX5_number_3 : decode cX5_number 3 = .ok (.iconst 0, 1) := dk_3 (dk_at dksX5_number_0 3 rfl rfl)
theorem dX5_number_4 : decode cX5_number 4 = .ok (.invokevirtual 86, 3) := dk_182 0 86 (dk_at dksX5_number_0 4 rfl rfl)
theorem dX5_number_7 : decode cX5_number 7 = .ok (.ireturn, 1) := dk_172 (dk_at dksX5_number_0 7 rfl rfl)
abbrev cX5_other : ByteArray := prog_7_method_6_code
def yX5_other : MethodName := ⟨RX5, "other", "(III)I"⟩
def dkwX5_other_2 : List UInt8 := [167, 0, 4, 3, 7, 182, 0, 78, 42, 180, 0, 63, 54, 4, 42, 182, 0, 32, 21, 4, 172]
abbrev dktX5_other_2 : List UInt8 := dkwX5_other_2 ++ []
def dkwX5_other_1 : List UInt8 := [27, 133, 28, 133, 184, 0, 70, 6, 182, 0, 78, 42, 29, 42, 180, 0, 63, 184, 0, 82, 154, 0, 7, 4]
abbrev dktX5_other_1 : List UInt8 := dkwX5_other_1 ++ dktX5_other_2
def dkwX5_other_0 : List UInt8 := [42, 42, 180, 0, 43, 5, 160, 0, 7, 4, 167, 0, 4, 3, 5, 182, 0, 78, 42, 42, 180, 0, 63, 133]
abbrev dktX5_other_0 : List UInt8 := dkwX5_other_0 ++ dktX5_other_1
theorem dksX5_other_0 : cX5_other.data.toList.drop 0 = dktX5_other_0 := by decide +kernel
theorem dksX5_other_1 : cX5_other.data.toList.drop 24 = dktX5_other_1 := dk_seg dksX5_other_0 24 rfl rfl
theorem dksX5_other_2 : cX5_other.data.toList.drop 48 = dktX5_other_2 := dk_seg dksX5_other_1 24 rfl rfl
theorem dX5_other_0 : decode cX5_other 0 = .ok (.aload_n 0, 1) := dk_42 (dk_at dksX5_other_0 0 rfl rfl)
theorem dX5_other_1 : decode cX5_other 1 = .ok (.aload_n 0, 1) := dk_42 (dk_at dksX5_other_0 1 rfl rfl)
theorem dX5_other_2 : decode cX5_other 2 = .ok (.getfield 43, 3) := dk_180 0 43 (dk_at dksX5_other_0 2 rfl rfl)
theorem dX5_other_5 : decode cX5_other 5 = .ok (.iconst 2, 1) := dk_5 (dk_at dksX5_other_0 5 rfl rfl)
theorem dX5_other_6 : decode cX5_other 6 = .ok (.if_icmp .ne 7, 3) := dk_160 0 7 (dk_at dksX5_other_0 6 rfl rfl)
theorem dX5_other_9 : decode cX5_other 9 = .ok (.iconst 1, 1) := dk_4 (dk_at dksX5_other_0 9 rfl rfl)
theorem dX5_other_10 : decode cX5_other 10 = .ok (.goto 4, 3) := dk_167 0 4 (dk_at dksX5_other_0 10 rfl rfl)
theorem dX5_other_13 : decode cX5_other 13 = .ok (.iconst 0, 1) := dk_3 (dk_at dksX5_other_0 13 rfl rfl)
theorem dX5_other_14 : decode cX5_other 14 = .ok (.iconst 2, 1) := dk_5 (dk_at dksX5_other_0 14 rfl rfl)
theorem dX5_other_15 : decode cX5_other 15 = .ok (.invokevirtual 78, 3) := dk_182 0 78 (dk_at dksX5_other_0 15 rfl rfl)
theorem dX5_other_18 : decode cX5_other 18 = .ok (.aload_n 0, 1) := dk_42 (dk_at dksX5_other_0 18 rfl rfl)
theorem dX5_other_19 : decode cX5_other 19 = .ok (.aload_n 0, 1) := dk_42 (dk_at dksX5_other_0 19 rfl rfl)
theorem dX5_other_20 : decode cX5_other 20 = .ok (.getfield 63, 3) := dk_180 0 63 (dk_at dksX5_other_0 20 rfl rfl)
theorem dX5_other_23 : decode cX5_other 23 = .ok (.i2l, 1) := dk_133 (dk_at dksX5_other_0 23 rfl rfl)
theorem dX5_other_24 : decode cX5_other 24 = .ok (.iload_n 1, 1) := dk_27 (dk_at dksX5_other_1 0 rfl rfl)
theorem dX5_other_25 : decode cX5_other 25 = .ok (.i2l, 1) := dk_133 (dk_at dksX5_other_1 1 rfl rfl)
theorem dX5_other_26 : decode cX5_other 26 = .ok (.iload_n 2, 1) := dk_28 (dk_at dksX5_other_1 2 rfl rfl)
theorem dX5_other_27 : decode cX5_other 27 = .ok (.i2l, 1) := dk_133 (dk_at dksX5_other_1 3 rfl rfl)
theorem dX5_other_28 : decode cX5_other 28 = .ok (.invokestatic 70, 3) := dk_184 0 70 (dk_at dksX5_other_1 4 rfl rfl)
theorem dX5_other_31 : decode cX5_other 31 = .ok (.iconst 3, 1) := dk_6 (dk_at dksX5_other_1 7 rfl rfl)
theorem dX5_other_32 : decode cX5_other 32 = .ok (.invokevirtual 78, 3) := dk_182 0 78 (dk_at dksX5_other_1 8 rfl rfl)
theorem dX5_other_35 : decode cX5_other 35 = .ok (.aload_n 0, 1) := dk_42 (dk_at dksX5_other_1 11 rfl rfl)
theorem dX5_other_36 : decode cX5_other 36 = .ok (.iload_n 3, 1) := dk_29 (dk_at dksX5_other_1 12 rfl rfl)
theorem dX5_other_37 : decode cX5_other 37 = .ok (.aload_n 0, 1) := dk_42 (dk_at dksX5_other_1 13 rfl rfl)
theorem dX5_other_38 : decode cX5_other 38 = .ok (.getfield 63, 3) := dk_180 0 63 (dk_at dksX5_other_1 14 rfl rfl)
theorem dX5_other_41 : decode cX5_other 41 = .ok (.invokestatic 82, 3) := dk_184 0 82 (dk_at dksX5_other_1 17 rfl rfl)
theorem dX5_other_44 : decode cX5_other 44 = .ok (.ifCond .ne 7, 3) := dk_154 0 7 (dk_at dksX5_other_1 20 rfl rfl)
theorem dX5_other_47 : decode cX5_other 47 = .ok (.iconst 1, 1) := dk_4 (dk_at dksX5_other_1 23 rfl rfl)
theorem dX5_other_48 : decode cX5_other 48 = .ok (.goto 4, 3) := dk_167 0 4 (dk_at dksX5_other_2 0 rfl rfl)
theorem dX5_other_51 : decode cX5_other 51 = .ok (.iconst 0, 1) := dk_3 (dk_at dksX5_other_2 3 rfl rfl)
theorem dX5_other_52 : decode cX5_other 52 = .ok (.iconst 4, 1) := dk_7 (dk_at dksX5_other_2 4 rfl rfl)
theorem dX5_other_53 : decode cX5_other 53 = .ok (.invokevirtual 78, 3) := dk_182 0 78 (dk_at dksX5_other_2 5 rfl rfl)
theorem dX5_other_56 : decode cX5_other 56 = .ok (.aload_n 0, 1) := dk_42 (dk_at dksX5_other_2 8 rfl rfl)
theorem dX5_other_57 : decode cX5_other 57 = .ok (.getfield 63, 3) := dk_180 0 63 (dk_at dksX5_other_2 9 rfl rfl)
theorem dX5_other_60 : decode cX5_other 60 = .ok (.istore 4, 2) := dk_54 4 (dk_at dksX5_other_2 12 rfl rfl)
theorem dX5_other_62 : decode cX5_other 62 = .ok (.aload_n 0, 1) := dk_42 (dk_at dksX5_other_2 14 rfl rfl)
theorem dX5_other_63 : decode cX5_other 63 = .ok (.invokevirtual 32, 3) := dk_182 0 32 (dk_at dksX5_other_2 15 rfl rfl)
theorem dX5_other_66 : decode cX5_other 66 = .ok (.iload 4, 2) := dk_21 4 (dk_at dksX5_other_2 18 rfl rfl)
theorem dX5_other_68 : decode cX5_other 68 = .ok (.ireturn, 1) := dk_172 (dk_at dksX5_other_2 20 rfl rfl)
abbrev cX5_penOf : ByteArray := prog_7_method_11_code
def yX5_penOf : MethodName := ⟨RX5, "penOf", "()V"⟩
def dkwX5_penOf_2 : List UInt8 := [180, 0, 134, 42, 4, 16, 9, 182, 0, 122, 79, 42, 89, 180, 0, 134, 4, 96, 181, 0, 134, 177]
abbrev dktX5_penOf_2 : List UInt8 := dkwX5_penOf_2 ++ []
def dkwX5_penOf_1 : List UInt8 := [180, 0, 12, 180, 0, 137, 42, 180, 0, 134, 42, 182, 0, 140, 79, 42, 180, 0, 12, 180, 0, 143, 42]
abbrev dktX5_penOf_1 : List UInt8 := dkwX5_penOf_1 ++ dktX5_penOf_2
def dkwX5_penOf_0 : List UInt8 := [42, 42, 180, 0, 134, 7, 162, 0, 7, 4, 167, 0, 4, 3, 8, 182, 0, 78, 42, 182, 0, 32, 42]
abbrev dktX5_penOf_0 : List UInt8 := dkwX5_penOf_0 ++ dktX5_penOf_1
theorem dksX5_penOf_0 : cX5_penOf.data.toList.drop 0 = dktX5_penOf_0 := by decide +kernel
theorem dksX5_penOf_1 : cX5_penOf.data.toList.drop 23 = dktX5_penOf_1 := dk_seg dksX5_penOf_0 23 rfl rfl
theorem dksX5_penOf_2 : cX5_penOf.data.toList.drop 46 = dktX5_penOf_2 := dk_seg dksX5_penOf_1 23 rfl rfl
theorem dX5_penOf_0 : decode cX5_penOf 0 = .ok (.aload_n 0, 1) := dk_42 (dk_at dksX5_penOf_0 0 rfl rfl)
theorem dX5_penOf_1 : decode cX5_penOf 1 = .ok (.aload_n 0, 1) := dk_42 (dk_at dksX5_penOf_0 1 rfl rfl)
theorem dX5_penOf_2 : decode cX5_penOf 2 = .ok (.getfield 134, 3) := dk_180 0 134 (dk_at dksX5_penOf_0 2 rfl rfl)
theorem dX5_penOf_5 : decode cX5_penOf 5 = .ok (.iconst 4, 1) := dk_7 (dk_at dksX5_penOf_0 5 rfl rfl)
theorem dX5_penOf_6 : decode cX5_penOf 6 = .ok (.if_icmp .ge 7, 3) := dk_162 0 7 (dk_at dksX5_penOf_0 6 rfl rfl)
theorem dX5_penOf_9 : decode cX5_penOf 9 = .ok (.iconst 1, 1) := dk_4 (dk_at dksX5_penOf_0 9 rfl rfl)
theorem dX5_penOf_10 : decode cX5_penOf 10 = .ok (.goto 4, 3) := dk_167 0 4 (dk_at dksX5_penOf_0 10 rfl rfl)
theorem dX5_penOf_13 : decode cX5_penOf 13 = .ok (.iconst 0, 1) := dk_3 (dk_at dksX5_penOf_0 13 rfl rfl)
theorem dX5_penOf_14 : decode cX5_penOf 14 = .ok (.iconst 5, 1) := dk_8 (dk_at dksX5_penOf_0 14 rfl rfl)
theorem dX5_penOf_15 : decode cX5_penOf 15 = .ok (.invokevirtual 78, 3) := dk_182 0 78 (dk_at dksX5_penOf_0 15 rfl rfl)
theorem dX5_penOf_18 : decode cX5_penOf 18 = .ok (.aload_n 0, 1) := dk_42 (dk_at dksX5_penOf_0 18 rfl rfl)
theorem dX5_penOf_19 : decode cX5_penOf 19 = .ok (.invokevirtual 32, 3) := dk_182 0 32 (dk_at dksX5_penOf_0 19 rfl rfl)
theorem dX5_penOf_22 : decode cX5_penOf 22 = .ok (.aload_n 0, 1) := dk_42 (dk_at dksX5_penOf_0 22 rfl rfl)
theorem dX5_penOf_23 : decode cX5_penOf 23 = .ok (.getfield 12, 3) := dk_180 0 12 (dk_at dksX5_penOf_1 0 rfl rfl)
theorem dX5_penOf_26 : decode cX5_penOf 26 = .ok (.getfield 137, 3) := dk_180 0 137 (dk_at dksX5_penOf_1 3 rfl rfl)
theorem dX5_penOf_29 : decode cX5_penOf 29 = .ok (.aload_n 0, 1) := dk_42 (dk_at dksX5_penOf_1 6 rfl rfl)
theorem dX5_penOf_30 : decode cX5_penOf 30 = .ok (.getfield 134, 3) := dk_180 0 134 (dk_at dksX5_penOf_1 7 rfl rfl)
theorem dX5_penOf_33 : decode cX5_penOf 33 = .ok (.aload_n 0, 1) := dk_42 (dk_at dksX5_penOf_1 10 rfl rfl)
theorem dX5_penOf_34 : decode cX5_penOf 34 = .ok (.invokevirtual 140, 3) := dk_182 0 140 (dk_at dksX5_penOf_1 11 rfl rfl)
theorem dX5_penOf_37 : decode cX5_penOf 37 = .ok (.iastore, 1) := dk_79 (dk_at dksX5_penOf_1 14 rfl rfl)
theorem dX5_penOf_38 : decode cX5_penOf 38 = .ok (.aload_n 0, 1) := dk_42 (dk_at dksX5_penOf_1 15 rfl rfl)
theorem dX5_penOf_39 : decode cX5_penOf 39 = .ok (.getfield 12, 3) := dk_180 0 12 (dk_at dksX5_penOf_1 16 rfl rfl)
theorem dX5_penOf_42 : decode cX5_penOf 42 = .ok (.getfield 143, 3) := dk_180 0 143 (dk_at dksX5_penOf_1 19 rfl rfl)
theorem dX5_penOf_45 : decode cX5_penOf 45 = .ok (.aload_n 0, 1) := dk_42 (dk_at dksX5_penOf_1 22 rfl rfl)
theorem dX5_penOf_46 : decode cX5_penOf 46 = .ok (.getfield 134, 3) := dk_180 0 134 (dk_at dksX5_penOf_2 0 rfl rfl)
theorem dX5_penOf_49 : decode cX5_penOf 49 = .ok (.aload_n 0, 1) := dk_42 (dk_at dksX5_penOf_2 3 rfl rfl)
theorem dX5_penOf_50 : decode cX5_penOf 50 = .ok (.iconst 1, 1) := dk_4 (dk_at dksX5_penOf_2 4 rfl rfl)
theorem dX5_penOf_51 : decode cX5_penOf 51 = .ok (.bipush 9, 2) := dk_16 9 (dk_at dksX5_penOf_2 5 rfl rfl)
theorem dX5_penOf_53 : decode cX5_penOf 53 = .ok (.invokevirtual 122, 3) := dk_182 0 122 (dk_at dksX5_penOf_2 7 rfl rfl)
theorem dX5_penOf_56 : decode cX5_penOf 56 = .ok (.iastore, 1) := dk_79 (dk_at dksX5_penOf_2 10 rfl rfl)
theorem dX5_penOf_57 : decode cX5_penOf 57 = .ok (.aload_n 0, 1) := dk_42 (dk_at dksX5_penOf_2 11 rfl rfl)
theorem dX5_penOf_58 : decode cX5_penOf 58 = .ok (.dup, 1) := dk_89 (dk_at dksX5_penOf_2 12 rfl rfl)
theorem dX5_penOf_59 : decode cX5_penOf 59 = .ok (.getfield 134, 3) := dk_180 0 134 (dk_at dksX5_penOf_2 13 rfl rfl)
theorem dX5_penOf_62 : decode cX5_penOf 62 = .ok (.iconst 1, 1) := dk_4 (dk_at dksX5_penOf_2 16 rfl rfl)
theorem dX5_penOf_63 : decode cX5_penOf 63 = .ok (.iadd, 1) := dk_96 (dk_at dksX5_penOf_2 17 rfl rfl)
theorem dX5_penOf_64 : decode cX5_penOf 64 = .ok (.putfield 134, 3) := dk_181 0 134 (dk_at dksX5_penOf_2 18 rfl rfl)
theorem dX5_penOf_67 : decode cX5_penOf 67 = .ok (.return_, 1) := dk_177 (dk_at dksX5_penOf_2 21 rfl rfl)
abbrev cX5_vowel : ByteArray := prog_7_method_9_code
def yX5_vowel : MethodName := ⟨RX5, "vowel", "()I"⟩
def dkwX5_vowel_3 : List UInt8 := [182, 0, 32, 27, 172]
abbrev dktX5_vowel_3 : List UInt8 := dkwX5_vowel_3 ++ []
def dkwX5_vowel_2 : List UInt8 := [4, 167, 0, 4, 3, 6, 182, 0, 78, 18, 96, 42, 42, 180, 0, 37, 182, 0, 59, 182, 0, 98, 60, 42]
abbrev dktX5_vowel_2 : List UInt8 := dkwX5_vowel_2 ++ dktX5_vowel_3
def dkwX5_vowel_1 : List UInt8 := [180, 0, 37, 100, 4, 160, 0, 23, 18, 96, 42, 42, 180, 0, 37, 182, 0, 59, 182, 0, 98, 155, 0, 7]
abbrev dktX5_vowel_1 : List UInt8 := dkwX5_vowel_1 ++ dktX5_vowel_2
def dkwX5_vowel_0 : List UInt8 := [42, 42, 180, 0, 43, 4, 160, 0, 7, 4, 167, 0, 4, 3, 5, 182, 0, 78, 42, 42, 180, 0, 52, 42]
abbrev dktX5_vowel_0 : List UInt8 := dkwX5_vowel_0 ++ dktX5_vowel_1
theorem dksX5_vowel_0 : cX5_vowel.data.toList.drop 0 = dktX5_vowel_0 := by decide +kernel
theorem dksX5_vowel_1 : cX5_vowel.data.toList.drop 24 = dktX5_vowel_1 := dk_seg dksX5_vowel_0 24 rfl rfl
theorem dksX5_vowel_2 : cX5_vowel.data.toList.drop 48 = dktX5_vowel_2 := dk_seg dksX5_vowel_1 24 rfl rfl
theorem dksX5_vowel_3 : cX5_vowel.data.toList.drop 72 = dktX5_vowel_3 := dk_seg dksX5_vowel_2 24 rfl rfl
theorem dX5_vowel_0 : decode cX5_vowel 0 = .ok (.aload_n 0, 1) := dk_42 (dk_at dksX5_vowel_0 0 rfl rfl)
theorem dX5_vowel_1 : decode cX5_vowel 1 = .ok (.aload_n 0, 1) := dk_42 (dk_at dksX5_vowel_0 1 rfl rfl)
theorem dX5_vowel_2 : decode cX5_vowel 2 = .ok (.getfield 43, 3) := dk_180 0 43 (dk_at dksX5_vowel_0 2 rfl rfl)
theorem dX5_vowel_5 : decode cX5_vowel 5 = .ok (.iconst 1, 1) := dk_4 (dk_at dksX5_vowel_0 5 rfl rfl)
theorem dX5_vowel_6 : decode cX5_vowel 6 = .ok (.if_icmp .ne 7, 3) := dk_160 0 7 (dk_at dksX5_vowel_0 6 rfl rfl)
theorem dX5_vowel_9 : decode cX5_vowel 9 = .ok (.iconst 1, 1) := dk_4 (dk_at dksX5_vowel_0 9 rfl rfl)
theorem dX5_vowel_10 : decode cX5_vowel 10 = .ok (.goto 4, 3) := dk_167 0 4 (dk_at dksX5_vowel_0 10 rfl rfl)
theorem dX5_vowel_13 : decode cX5_vowel 13 = .ok (.iconst 0, 1) := dk_3 (dk_at dksX5_vowel_0 13 rfl rfl)
theorem dX5_vowel_14 : decode cX5_vowel 14 = .ok (.iconst 2, 1) := dk_5 (dk_at dksX5_vowel_0 14 rfl rfl)
theorem dX5_vowel_15 : decode cX5_vowel 15 = .ok (.invokevirtual 78, 3) := dk_182 0 78 (dk_at dksX5_vowel_0 15 rfl rfl)
theorem dX5_vowel_18 : decode cX5_vowel 18 = .ok (.aload_n 0, 1) := dk_42 (dk_at dksX5_vowel_0 18 rfl rfl)
theorem dX5_vowel_19 : decode cX5_vowel 19 = .ok (.aload_n 0, 1) := dk_42 (dk_at dksX5_vowel_0 19 rfl rfl)
theorem dX5_vowel_20 : decode cX5_vowel 20 = .ok (.getfield 52, 3) := dk_180 0 52 (dk_at dksX5_vowel_0 20 rfl rfl)
theorem dX5_vowel_23 : decode cX5_vowel 23 = .ok (.aload_n 0, 1) := dk_42 (dk_at dksX5_vowel_0 23 rfl rfl)
theorem dX5_vowel_24 : decode cX5_vowel 24 = .ok (.getfield 37, 3) := dk_180 0 37 (dk_at dksX5_vowel_1 0 rfl rfl)
theorem dX5_vowel_27 : decode cX5_vowel 27 = .ok (.isub, 1) := dk_100 (dk_at dksX5_vowel_1 3 rfl rfl)
theorem dX5_vowel_28 : decode cX5_vowel 28 = .ok (.iconst 1, 1) := dk_4 (dk_at dksX5_vowel_1 4 rfl rfl)
theorem dX5_vowel_29 : decode cX5_vowel 29 = .ok (.if_icmp .ne 23, 3) := dk_160 0 23 (dk_at dksX5_vowel_1 5 rfl rfl)
theorem dX5_vowel_32 : decode cX5_vowel 32 = .ok (.ldc 96, 2) := dk_18 96 (dk_at dksX5_vowel_1 8 rfl rfl)
theorem dX5_vowel_34 : decode cX5_vowel 34 = .ok (.aload_n 0, 1) := dk_42 (dk_at dksX5_vowel_1 10 rfl rfl)
theorem dX5_vowel_35 : decode cX5_vowel 35 = .ok (.aload_n 0, 1) := dk_42 (dk_at dksX5_vowel_1 11 rfl rfl)
theorem dX5_vowel_36 : decode cX5_vowel 36 = .ok (.getfield 37, 3) := dk_180 0 37 (dk_at dksX5_vowel_1 12 rfl rfl)
theorem dX5_vowel_39 : decode cX5_vowel 39 = .ok (.invokevirtual 59, 3) := dk_182 0 59 (dk_at dksX5_vowel_1 15 rfl rfl)
theorem dX5_vowel_42 : decode cX5_vowel 42 = .ok (.invokevirtual 98, 3) := dk_182 0 98 (dk_at dksX5_vowel_1 18 rfl rfl)
theorem dX5_vowel_45 : decode cX5_vowel 45 = .ok (.ifCond .lt 7, 3) := dk_155 0 7 (dk_at dksX5_vowel_1 21 rfl rfl)
theorem dX5_vowel_48 : decode cX5_vowel 48 = .ok (.iconst 1, 1) := dk_4 (dk_at dksX5_vowel_2 0 rfl rfl)
theorem dX5_vowel_49 : decode cX5_vowel 49 = .ok (.goto 4, 3) := dk_167 0 4 (dk_at dksX5_vowel_2 1 rfl rfl)
theorem dX5_vowel_52 : decode cX5_vowel 52 = .ok (.iconst 0, 1) := dk_3 (dk_at dksX5_vowel_2 4 rfl rfl)
theorem dX5_vowel_53 : decode cX5_vowel 53 = .ok (.iconst 3, 1) := dk_6 (dk_at dksX5_vowel_2 5 rfl rfl)
theorem dX5_vowel_54 : decode cX5_vowel 54 = .ok (.invokevirtual 78, 3) := dk_182 0 78 (dk_at dksX5_vowel_2 6 rfl rfl)
theorem dX5_vowel_57 : decode cX5_vowel 57 = .ok (.ldc 96, 2) := dk_18 96 (dk_at dksX5_vowel_2 9 rfl rfl)
theorem dX5_vowel_59 : decode cX5_vowel 59 = .ok (.aload_n 0, 1) := dk_42 (dk_at dksX5_vowel_2 11 rfl rfl)
theorem dX5_vowel_60 : decode cX5_vowel 60 = .ok (.aload_n 0, 1) := dk_42 (dk_at dksX5_vowel_2 12 rfl rfl)
theorem dX5_vowel_61 : decode cX5_vowel 61 = .ok (.getfield 37, 3) := dk_180 0 37 (dk_at dksX5_vowel_2 13 rfl rfl)
theorem dX5_vowel_64 : decode cX5_vowel 64 = .ok (.invokevirtual 59, 3) := dk_182 0 59 (dk_at dksX5_vowel_2 16 rfl rfl)
theorem dX5_vowel_67 : decode cX5_vowel 67 = .ok (.invokevirtual 98, 3) := dk_182 0 98 (dk_at dksX5_vowel_2 19 rfl rfl)
theorem dX5_vowel_70 : decode cX5_vowel 70 = .ok (.istore_n 1, 1) := dk_60 (dk_at dksX5_vowel_2 22 rfl rfl)
theorem dX5_vowel_71 : decode cX5_vowel 71 = .ok (.aload_n 0, 1) := dk_42 (dk_at dksX5_vowel_2 23 rfl rfl)
theorem dX5_vowel_72 : decode cX5_vowel 72 = .ok (.invokevirtual 32, 3) := dk_182 0 32 (dk_at dksX5_vowel_3 0 rfl rfl)
theorem dX5_vowel_75 : decode cX5_vowel 75 = .ok (.iload_n 1, 1) := dk_27 (dk_at dksX5_vowel_3 3 rfl rfl)
theorem dX5_vowel_76 : decode cX5_vowel 76 = .ok (.ireturn, 1) := dk_172 (dk_at dksX5_vowel_3 4 rfl rfl)
abbrev cX5_orderOf : ByteArray := prog_7_method_12_code
def yX5_orderOf : MethodName := ⟨RX5, "orderOf", "()V"⟩
def dkwX5_orderOf_3 : List UInt8 := [180, 0, 146, 43, 83, 42, 89, 180, 0, 146, 4, 96, 181, 0, 146, 177]
abbrev dktX5_orderOf_3 : List UInt8 := dkwX5_orderOf_3 ++ []
def dkwX5_orderOf_2 : List UInt8 := [16, 9, 182, 0, 122, 181, 0, 155, 43, 42, 3, 16, 9, 182, 0, 122, 181, 0, 158, 42, 180, 0, 20, 42]
abbrev dktX5_orderOf_2 : List UInt8 := dkwX5_orderOf_2 ++ dktX5_orderOf_3
def dkwX5_orderOf_1 : List UInt8 := [187, 0, 18, 89, 183, 0, 149, 76, 43, 42, 43, 180, 0, 150, 182, 0, 115, 181, 0, 153, 43, 42, 4]
abbrev dktX5_orderOf_1 : List UInt8 := dkwX5_orderOf_1 ++ dktX5_orderOf_2
def dkwX5_orderOf_0 : List UInt8 := [42, 42, 180, 0, 146, 7, 162, 0, 7, 4, 167, 0, 4, 3, 8, 182, 0, 78, 42, 182, 0, 32]
abbrev dktX5_orderOf_0 : List UInt8 := dkwX5_orderOf_0 ++ dktX5_orderOf_1
theorem dksX5_orderOf_0 : cX5_orderOf.data.toList.drop 0 = dktX5_orderOf_0 := by decide +kernel
theorem dksX5_orderOf_1 : cX5_orderOf.data.toList.drop 22 = dktX5_orderOf_1 := dk_seg dksX5_orderOf_0 22 rfl rfl
theorem dksX5_orderOf_2 : cX5_orderOf.data.toList.drop 45 = dktX5_orderOf_2 := dk_seg dksX5_orderOf_1 23 rfl rfl
theorem dksX5_orderOf_3 : cX5_orderOf.data.toList.drop 69 = dktX5_orderOf_3 := dk_seg dksX5_orderOf_2 24 rfl rfl
theorem dX5_orderOf_0 : decode cX5_orderOf 0 = .ok (.aload_n 0, 1) := dk_42 (dk_at dksX5_orderOf_0 0 rfl rfl)
theorem dX5_orderOf_1 : decode cX5_orderOf 1 = .ok (.aload_n 0, 1) := dk_42 (dk_at dksX5_orderOf_0 1 rfl rfl)
theorem dX5_orderOf_2 : decode cX5_orderOf 2 = .ok (.getfield 146, 3) := dk_180 0 146 (dk_at dksX5_orderOf_0 2 rfl rfl)
theorem dX5_orderOf_5 : decode cX5_orderOf 5 = .ok (.iconst 4, 1) := dk_7 (dk_at dksX5_orderOf_0 5 rfl rfl)
theorem dX5_orderOf_6 : decode cX5_orderOf 6 = .ok (.if_icmp .ge 7, 3) := dk_162 0 7 (dk_at dksX5_orderOf_0 6 rfl rfl)
theorem dX5_orderOf_9 : decode cX5_orderOf 9 = .ok (.iconst 1, 1) := dk_4 (dk_at dksX5_orderOf_0 9 rfl rfl)
theorem dX5_orderOf_10 : decode cX5_orderOf 10 = .ok (.goto 4, 3) := dk_167 0 4 (dk_at dksX5_orderOf_0 10 rfl rfl)
theorem dX5_orderOf_13 : decode cX5_orderOf 13 = .ok (.iconst 0, 1) := dk_3 (dk_at dksX5_orderOf_0 13 rfl rfl)
theorem dX5_orderOf_14 : decode cX5_orderOf 14 = .ok (.iconst 5, 1) := dk_8 (dk_at dksX5_orderOf_0 14 rfl rfl)
theorem dX5_orderOf_15 : decode cX5_orderOf 15 = .ok (.invokevirtual 78, 3) := dk_182 0 78 (dk_at dksX5_orderOf_0 15 rfl rfl)
theorem dX5_orderOf_18 : decode cX5_orderOf 18 = .ok (.aload_n 0, 1) := dk_42 (dk_at dksX5_orderOf_0 18 rfl rfl)
theorem dX5_orderOf_19 : decode cX5_orderOf 19 = .ok (.invokevirtual 32, 3) := dk_182 0 32 (dk_at dksX5_orderOf_0 19 rfl rfl)
theorem dX5_orderOf_22 : decode cX5_orderOf 22 = .ok (.new 18, 3) := dk_187 0 18 (dk_at dksX5_orderOf_1 0 rfl rfl)
theorem dX5_orderOf_25 : decode cX5_orderOf 25 = .ok (.dup, 1) := dk_89 (dk_at dksX5_orderOf_1 3 rfl rfl)
theorem dX5_orderOf_26 : decode cX5_orderOf 26 = .ok (.invokespecial 149, 3) := dk_183 0 149 (dk_at dksX5_orderOf_1 4 rfl rfl)
theorem dX5_orderOf_29 : decode cX5_orderOf 29 = .ok (.astore_n 1, 1) := dk_76 (dk_at dksX5_orderOf_1 7 rfl rfl)
theorem dX5_orderOf_30 : decode cX5_orderOf 30 = .ok (.aload_n 1, 1) := dk_43 (dk_at dksX5_orderOf_1 8 rfl rfl)
theorem dX5_orderOf_31 : decode cX5_orderOf 31 = .ok (.aload_n 0, 1) := dk_42 (dk_at dksX5_orderOf_1 9 rfl rfl)
theorem dX5_orderOf_32 : decode cX5_orderOf 32 = .ok (.aload_n 1, 1) := dk_43 (dk_at dksX5_orderOf_1 10 rfl rfl)
theorem dX5_orderOf_33 : decode cX5_orderOf 33 = .ok (.getfield 150, 3) := dk_180 0 150 (dk_at dksX5_orderOf_1 11 rfl rfl)
theorem dX5_orderOf_36 : decode cX5_orderOf 36 = .ok (.invokevirtual 115, 3) := dk_182 0 115 (dk_at dksX5_orderOf_1 14 rfl rfl)
theorem dX5_orderOf_39 : decode cX5_orderOf 39 = .ok (.putfield 153, 3) := dk_181 0 153 (dk_at dksX5_orderOf_1 17 rfl rfl)
theorem dX5_orderOf_42 : decode cX5_orderOf 42 = .ok (.aload_n 1, 1) := dk_43 (dk_at dksX5_orderOf_1 20 rfl rfl)
theorem dX5_orderOf_43 : decode cX5_orderOf 43 = .ok (.aload_n 0, 1) := dk_42 (dk_at dksX5_orderOf_1 21 rfl rfl)
theorem dX5_orderOf_44 : decode cX5_orderOf 44 = .ok (.iconst 1, 1) := dk_4 (dk_at dksX5_orderOf_1 22 rfl rfl)
theorem dX5_orderOf_45 : decode cX5_orderOf 45 = .ok (.bipush 9, 2) := dk_16 9 (dk_at dksX5_orderOf_2 0 rfl rfl)
theorem dX5_orderOf_47 : decode cX5_orderOf 47 = .ok (.invokevirtual 122, 3) := dk_182 0 122 (dk_at dksX5_orderOf_2 2 rfl rfl)
theorem dX5_orderOf_50 : decode cX5_orderOf 50 = .ok (.putfield 155, 3) := dk_181 0 155 (dk_at dksX5_orderOf_2 5 rfl rfl)
theorem dX5_orderOf_53 : decode cX5_orderOf 53 = .ok (.aload_n 1, 1) := dk_43 (dk_at dksX5_orderOf_2 8 rfl rfl)
theorem dX5_orderOf_54 : decode cX5_orderOf 54 = .ok (.aload_n 0, 1) := dk_42 (dk_at dksX5_orderOf_2 9 rfl rfl)
theorem dX5_orderOf_55 : decode cX5_orderOf 55 = .ok (.iconst 0, 1) := dk_3 (dk_at dksX5_orderOf_2 10 rfl rfl)
theorem dX5_orderOf_56 : decode cX5_orderOf 56 = .ok (.bipush 9, 2) := dk_16 9 (dk_at dksX5_orderOf_2 11 rfl rfl)
theorem dX5_orderOf_58 : decode cX5_orderOf 58 = .ok (.invokevirtual 122, 3) := dk_182 0 122 (dk_at dksX5_orderOf_2 13 rfl rfl)
theorem dX5_orderOf_61 : decode cX5_orderOf 61 = .ok (.putfield 158, 3) := dk_181 0 158 (dk_at dksX5_orderOf_2 16 rfl rfl)
theorem dX5_orderOf_64 : decode cX5_orderOf 64 = .ok (.aload_n 0, 1) := dk_42 (dk_at dksX5_orderOf_2 19 rfl rfl)
theorem dX5_orderOf_65 : decode cX5_orderOf 65 = .ok (.getfield 20, 3) := dk_180 0 20 (dk_at dksX5_orderOf_2 20 rfl rfl)
theorem dX5_orderOf_68 : decode cX5_orderOf 68 = .ok (.aload_n 0, 1) := dk_42 (dk_at dksX5_orderOf_2 23 rfl rfl)
theorem dX5_orderOf_69 : decode cX5_orderOf 69 = .ok (.getfield 146, 3) := dk_180 0 146 (dk_at dksX5_orderOf_3 0 rfl rfl)
theorem dX5_orderOf_72 : decode cX5_orderOf 72 = .ok (.aload_n 1, 1) := dk_43 (dk_at dksX5_orderOf_3 3 rfl rfl)
theorem dX5_orderOf_73 : decode cX5_orderOf 73 = .ok (.aastore, 1) := dk_83 (dk_at dksX5_orderOf_3 4 rfl rfl)
theorem dX5_orderOf_74 : decode cX5_orderOf 74 = .ok (.aload_n 0, 1) := dk_42 (dk_at dksX5_orderOf_3 5 rfl rfl)
theorem dX5_orderOf_75 : decode cX5_orderOf 75 = .ok (.dup, 1) := dk_89 (dk_at dksX5_orderOf_3 6 rfl rfl)
theorem dX5_orderOf_76 : decode cX5_orderOf 76 = .ok (.getfield 146, 3) := dk_180 0 146 (dk_at dksX5_orderOf_3 7 rfl rfl)
theorem dX5_orderOf_79 : decode cX5_orderOf 79 = .ok (.iconst 1, 1) := dk_4 (dk_at dksX5_orderOf_3 10 rfl rfl)
theorem dX5_orderOf_80 : decode cX5_orderOf 80 = .ok (.iadd, 1) := dk_96 (dk_at dksX5_orderOf_3 11 rfl rfl)
theorem dX5_orderOf_81 : decode cX5_orderOf 81 = .ok (.putfield 146, 3) := dk_181 0 146 (dk_at dksX5_orderOf_3 12 rfl rfl)
theorem dX5_orderOf_84 : decode cX5_orderOf 84 = .ok (.return_, 1) := dk_177 (dk_at dksX5_orderOf_3 15 rfl rfl)
theorem q91 : (Jvm.Cond.initialized "EchoPens$Reader") ∈ lw_all := lw_g (lw_at lw_m1 7 rfl) rfl
theorem q130 : (Jvm.Cond.instantiable "EchoPens$Reader" (11 : Nat)) ∈ lw_all := lw_g (lw_at lw_m1 46 rfl) rfl
theorem q132 : (Jvm.Cond.instanceMethod ({ cls := "EchoPens$Reader", name := "<init>", desc := "([B)V" } : Jvm.MethodName)) ∈ lw_all := lw_g (lw_at lw_m1 48 rfl) rfl
theorem q133 : (Jvm.Cond.code ({ cls := "EchoPens$Reader", name := "<init>", desc := "([B)V" } : Jvm.MethodName) prog_7_method_1_code (2 : Nat) (Option.none : Option Jvm.ClassFile.FieldType)) ∈ lw_all := lw_g (lw_at lw_m1 49 rfl) rfl
theorem q134 : (Jvm.Cond.methodLink "EchoPens$Reader" (3 : Nat) ({ cls := "java/lang/Object", name := "<init>", desc := "()V" } : Jvm.MethodName)) ∈ lw_all := lw_g (lw_at lw_m1 50 rfl) rfl
theorem q137 : (Jvm.Cond.classLink "EchoPens$Reader" (9 : Nat) "EchoPens$Farm") ∈ lw_all := lw_g (lw_at lw_m1 53 rfl) rfl
theorem q139 : (Jvm.Cond.methodLinkNest "EchoPens$Reader" (11 : Nat) ({ cls := "EchoPens$Farm", name := "<init>", desc := "()V" } : Jvm.MethodName) "EchoPens") ∈ lw_tbl := lw_at lw_m1 55 rfl
theorem q147 : (Jvm.Cond.fieldLinkNest "EchoPens$Reader" (143 : Nat) "EchoPens$Farm" "distances" "[I" "EchoPens") ∈ lw_tbl := lw_at lw_m1 63 rfl
theorem q149 : (Jvm.Cond.fieldLinkNest "EchoPens$Reader" (137 : Nat) "EchoPens$Farm" "vowels" "[I" "EchoPens") ∈ lw_tbl := lw_at lw_m1 65 rfl
theorem q152 : (Jvm.Cond.fieldLinkNest "EchoPens$Reader" (104 : Nat) "EchoPens$Farm" "breeds" "[I" "EchoPens") ∈ lw_tbl := lw_at lw_m1 68 rfl
theorem q155 : (Jvm.Cond.fieldLinkNest "EchoPens$Reader" (111 : Nat) "EchoPens$Farm" "words" "[[B" "EchoPens") ∈ lw_tbl := lw_at lw_m1 71 rfl
theorem q158 : (Jvm.Cond.fieldLinkNest "EchoPens$Reader" (108 : Nat) "EchoPens$Farm" "many" "[I" "EchoPens") ∈ lw_tbl := lw_at lw_m1 74 rfl
theorem q161 : (Jvm.Cond.fieldLinkNest "EchoPens$Reader" (119 : Nat) "EchoPens$Farm" "louds" "[I" "EchoPens") ∈ lw_tbl := lw_at lw_m1 77 rfl
theorem q164 : (Jvm.Cond.fieldLinkNest "EchoPens$Reader" (126 : Nat) "EchoPens$Farm" "pens" "[I" "EchoPens") ∈ lw_tbl := lw_at lw_m1 80 rfl
theorem q168 : (Jvm.Cond.fieldLinkNest "EchoPens$Reader" (101 : Nat) "EchoPens$Farm" "echoMany" "I" "EchoPens") ∈ lw_tbl := lw_at lw_m1 84 rfl
theorem q200 : (Jvm.Cond.classLink "EchoPens$Reader" (18 : Nat) "EchoPens$Order") ∈ lw_all := lw_g (lw_at lw_m1 116 rfl) rfl
theorem q202 : (Jvm.Cond.methodLink "EchoPens$Reader" (32 : Nat) ({ cls := "EchoPens$Reader", name := "next", desc := "()V" } : Jvm.MethodName)) ∈ lw_all := lw_g (lw_at lw_m1 118 rfl) rfl
theorem q203 : (Jvm.Cond.privateMethod ({ cls := "EchoPens$Reader", name := "next", desc := "()V" } : Jvm.MethodName)) ∈ lw_tbl := lw_at lw_m1 119 rfl
theorem q204 : (Jvm.Cond.instanceMethod ({ cls := "EchoPens$Reader", name := "next", desc := "()V" } : Jvm.MethodName)) ∈ lw_all := lw_g (lw_at lw_m1 120 rfl) rfl
theorem q205 : (Jvm.Cond.code ({ cls := "EchoPens$Reader", name := "next", desc := "()V" } : Jvm.MethodName) prog_7_method_5_code (2 : Nat) (Option.none : Option Jvm.ClassFile.FieldType)) ∈ lw_all := lw_g (lw_at lw_m1 121 rfl) rfl
theorem q206 : (Jvm.Cond.methodLink "EchoPens$Reader" (59 : Nat) ({ cls := "EchoPens$Reader", name := "at", desc := "(I)I" } : Jvm.MethodName)) ∈ lw_all := lw_g (lw_at lw_m1 122 rfl) rfl
theorem q207 : (Jvm.Cond.privateMethod ({ cls := "EchoPens$Reader", name := "at", desc := "(I)I" } : Jvm.MethodName)) ∈ lw_tbl := lw_at lw_m1 123 rfl
theorem q208 : (Jvm.Cond.instanceMethod ({ cls := "EchoPens$Reader", name := "at", desc := "(I)I" } : Jvm.MethodName)) ∈ lw_all := lw_g (lw_at lw_m1 124 rfl) rfl
theorem q209 : (Jvm.Cond.code ({ cls := "EchoPens$Reader", name := "at", desc := "(I)I" } : Jvm.MethodName) prog_7_method_2_code (2 : Nat) (Option.some Jvm.ClassFile.FieldType.int)) ∈ lw_all := lw_g (lw_at lw_m1 125 rfl) rfl
theorem q210 : (Jvm.Cond.constantLong "EchoPens$Reader" (66 : Nat) (97 : Int64)) ∈ lw_all := lw_g (lw_at lw_m1 126 rfl) rfl
theorem q211 : (Jvm.Cond.constantLong "EchoPens$Reader" (68 : Nat) (122 : Int64)) ∈ lw_all := lw_g (lw_at lw_m1 127 rfl) rfl
theorem q212 : (Jvm.Cond.methodLinkNest "EchoPens$Reader" (70 : Nat) ({ cls := "EchoPens", name := "isIn", desc := "(JJJ)Z" } : Jvm.MethodName) "EchoPens") ∈ lw_tbl := lw_at lw_m1 128 rfl
theorem q213 : (Jvm.Cond.constantLong "EchoPens$Reader" (74 : Nat) (48 : Int64)) ∈ lw_all := lw_g (lw_at lw_m1 129 rfl) rfl
theorem q214 : (Jvm.Cond.constantLong "EchoPens$Reader" (76 : Nat) (57 : Int64)) ∈ lw_all := lw_g (lw_at lw_m1 130 rfl) rfl
theorem q215 : (Jvm.Cond.methodLink "EchoPens$Reader" (78 : Nat) ({ cls := "EchoPens$Reader", name := "must", desc := "(ZI)V" } : Jvm.MethodName)) ∈ lw_all := lw_g (lw_at lw_m1 131 rfl) rfl
theorem q216 : (Jvm.Cond.privateMethod ({ cls := "EchoPens$Reader", name := "must", desc := "(ZI)V" } : Jvm.MethodName)) ∈ lw_tbl := lw_at lw_m1 132 rfl
theorem q217 : (Jvm.Cond.instanceMethod ({ cls := "EchoPens$Reader", name := "must", desc := "(ZI)V" } : Jvm.MethodName)) ∈ lw_all := lw_g (lw_at lw_m1 133 rfl) rfl
theorem q218 : (Jvm.Cond.code ({ cls := "EchoPens$Reader", name := "must", desc := "(ZI)V" } : Jvm.MethodName) prog_7_method_3_code (3 : Nat) (Option.none : Option Jvm.ClassFile.FieldType)) ∈ lw_all := lw_g (lw_at lw_m1 134 rfl) rfl
theorem q219 : (Jvm.Cond.classLink "EchoPens$Reader" (35 : Nat) "EchoPens$Fault") ∈ lw_all := lw_g (lw_at lw_m1 135 rfl) rfl
theorem q275 : (Jvm.Cond.methodLink "EchoPens$Reader" (40 : Nat) ({ cls := "EchoPens$Fault", name := "<init>", desc := "(II)V" } : Jvm.MethodName)) ∈ lw_all := lw_g (lw_at lw_m1 191 rfl) rfl
theorem q308 : (Jvm.Cond.fieldLink "EchoPens$Reader" (28 : Nat) "EchoPens$Reader" "t" "[B") ∈ lw_all := lw_g (lw_at lw_m1 224 rfl) rfl
theorem q309 : (Jvm.Cond.fieldLink "EchoPens$Reader" (12 : Nat) "EchoPens$Reader" "farm" "LEchoPens$Farm;") ∈ lw_all := lw_g (lw_at lw_m1 225 rfl) rfl
theorem q311 : (Jvm.Cond.fieldLink "EchoPens$Reader" (20 : Nat) "EchoPens$Reader" "orders" "[LEchoPens$Order;") ∈ lw_all := lw_g (lw_at lw_m1 227 rfl) rfl
theorem q314 : (Jvm.Cond.fieldLink "EchoPens$Reader" (134 : Nat) "EchoPens$Reader" "penMany" "I") ∈ lw_all := lw_g (lw_at lw_m1 230 rfl) rfl
theorem q316 : (Jvm.Cond.fieldLink "EchoPens$Reader" (146 : Nat) "EchoPens$Reader" "orderMany" "I") ∈ lw_all := lw_g (lw_at lw_m1 232 rfl) rfl
theorem q317 : (Jvm.Cond.fieldLink "EchoPens$Reader" (24 : Nat) "EchoPens$Reader" "highPen" "I") ∈ lw_all := lw_g (lw_at lw_m1 233 rfl) rfl
theorem q319 : (Jvm.Cond.fieldLink "EchoPens$Reader" (179 : Nat) "EchoPens$Reader" "lines" "I") ∈ lw_all := lw_g (lw_at lw_m1 235 rfl) rfl
theorem q320 : (Jvm.Cond.fieldLink "EchoPens$Reader" (37 : Nat) "EchoPens$Reader" "from" "I") ∈ lw_all := lw_g (lw_at lw_m1 236 rfl) rfl
theorem q321 : (Jvm.Cond.fieldLink "EchoPens$Reader" (52 : Nat) "EchoPens$Reader" "to" "I") ∈ lw_all := lw_g (lw_at lw_m1 237 rfl) rfl
theorem q322 : (Jvm.Cond.fieldLink "EchoPens$Reader" (43 : Nat) "EchoPens$Reader" "kind" "I") ∈ lw_all := lw_g (lw_at lw_m1 238 rfl) rfl
theorem q323 : (Jvm.Cond.fieldLink "EchoPens$Reader" (63 : Nat) "EchoPens$Reader" "value" "I") ∈ lw_all := lw_g (lw_at lw_m1 239 rfl) rfl
theorem q324 : (Jvm.Cond.laysFinal "EchoPens$Reader" "EchoPens$Reader" "t" "[B") ∈ lw_all := lw_g (lw_at lw_m2 0 rfl) rfl
theorem q325 : (Jvm.Cond.soleField "EchoPens$Reader" "t") ∈ lw_all := lw_g (lw_at lw_m2 1 rfl) rfl
theorem q326 : (Jvm.Cond.laysFinal "EchoPens$Reader" "EchoPens$Reader" "farm" "LEchoPens$Farm;") ∈ lw_all := lw_g (lw_at lw_m2 2 rfl) rfl
theorem q327 : (Jvm.Cond.soleField "EchoPens$Reader" "farm") ∈ lw_all := lw_g (lw_at lw_m2 3 rfl) rfl
theorem q328 : (Jvm.Cond.laysFinal "EchoPens$Reader" "EchoPens$Reader" "orders" "[LEchoPens$Order;") ∈ lw_all := lw_g (lw_at lw_m2 4 rfl) rfl
theorem q329 : (Jvm.Cond.soleField "EchoPens$Reader" "orders") ∈ lw_all := lw_g (lw_at lw_m2 5 rfl) rfl
theorem q330 : (Jvm.Cond.lays "EchoPens$Reader" "EchoPens$Reader" "penMany" "I") ∈ lw_all := lw_g (lw_at lw_m2 6 rfl) rfl
theorem q331 : (Jvm.Cond.soleField "EchoPens$Reader" "penMany") ∈ lw_all := lw_g (lw_at lw_m2 7 rfl) rfl
theorem q332 : (Jvm.Cond.lays "EchoPens$Reader" "EchoPens$Reader" "orderMany" "I") ∈ lw_all := lw_g (lw_at lw_m2 8 rfl) rfl
theorem q333 : (Jvm.Cond.soleField "EchoPens$Reader" "orderMany") ∈ lw_all := lw_g (lw_at lw_m2 9 rfl) rfl
theorem q334 : (Jvm.Cond.lays "EchoPens$Reader" "EchoPens$Reader" "highPen" "I") ∈ lw_all := lw_g (lw_at lw_m2 10 rfl) rfl
theorem q335 : (Jvm.Cond.soleField "EchoPens$Reader" "highPen") ∈ lw_all := lw_g (lw_at lw_m2 11 rfl) rfl
theorem q336 : (Jvm.Cond.lays "EchoPens$Reader" "EchoPens$Reader" "lines" "I") ∈ lw_all := lw_g (lw_at lw_m2 12 rfl) rfl
theorem q337 : (Jvm.Cond.soleField "EchoPens$Reader" "lines") ∈ lw_all := lw_g (lw_at lw_m2 13 rfl) rfl
theorem q338 : (Jvm.Cond.lays "EchoPens$Reader" "EchoPens$Reader" "from" "I") ∈ lw_all := lw_g (lw_at lw_m2 14 rfl) rfl
theorem q339 : (Jvm.Cond.soleField "EchoPens$Reader" "from") ∈ lw_all := lw_g (lw_at lw_m2 15 rfl) rfl
theorem q340 : (Jvm.Cond.lays "EchoPens$Reader" "EchoPens$Reader" "to" "I") ∈ lw_all := lw_g (lw_at lw_m2 16 rfl) rfl
theorem q341 : (Jvm.Cond.soleField "EchoPens$Reader" "to") ∈ lw_all := lw_g (lw_at lw_m2 17 rfl) rfl
theorem q342 : (Jvm.Cond.lays "EchoPens$Reader" "EchoPens$Reader" "kind" "I") ∈ lw_all := lw_g (lw_at lw_m2 18 rfl) rfl
theorem q343 : (Jvm.Cond.soleField "EchoPens$Reader" "kind") ∈ lw_all := lw_g (lw_at lw_m2 19 rfl) rfl
theorem q344 : (Jvm.Cond.lays "EchoPens$Reader" "EchoPens$Reader" "value" "I") ∈ lw_all := lw_g (lw_at lw_m2 20 rfl) rfl
theorem q345 : (Jvm.Cond.soleField "EchoPens$Reader" "value") ∈ lw_all := lw_g (lw_at lw_m2 21 rfl) rfl
theorem q346 : (Jvm.Cond.superclass "EchoPens$Reader" "java/lang/Object") ∈ lw_all := lw_g (lw_at lw_m2 22 rfl) rfl
theorem q348 : (Jvm.Cond.instanceMethod ({ cls := "EchoPens$Reader", name := "all", desc := "()V" } : Jvm.MethodName)) ∈ lw_all := lw_g (lw_at lw_m2 24 rfl) rfl
theorem q349 : (Jvm.Cond.selects "EchoPens$Reader" ({ cls := "EchoPens$Reader", name := "all", desc := "()V" } : Jvm.MethodName) ({ cls := "EchoPens$Reader", name := "all", desc := "()V" } : Jvm.MethodName)) ∈ lw_all := lw_g (lw_at lw_m2 25 rfl) rfl
theorem q350 : (Jvm.Cond.code ({ cls := "EchoPens$Reader", name := "all", desc := "()V" } : Jvm.MethodName) prog_7_method_14_code (2 : Nat) (Option.none : Option Jvm.ClassFile.FieldType)) ∈ lw_all := lw_g (lw_at lw_m2 26 rfl) rfl
theorem q351 : (Jvm.Cond.methodLink "EchoPens$Reader" (182 : Nat) ({ cls := "EchoPens$Reader", name := "line", desc := "()V" } : Jvm.MethodName)) ∈ lw_all := lw_g (lw_at lw_m2 27 rfl) rfl
theorem q352 : (Jvm.Cond.privateMethod ({ cls := "EchoPens$Reader", name := "line", desc := "()V" } : Jvm.MethodName)) ∈ lw_tbl := lw_at lw_m2 28 rfl
theorem q353 : (Jvm.Cond.instanceMethod ({ cls := "EchoPens$Reader", name := "line", desc := "()V" } : Jvm.MethodName)) ∈ lw_all := lw_g (lw_at lw_m2 29 rfl) rfl
theorem q354 : (Jvm.Cond.code ({ cls := "EchoPens$Reader", name := "line", desc := "()V" } : Jvm.MethodName) prog_7_method_13_code (2 : Nat) (Option.none : Option Jvm.ClassFile.FieldType)) ∈ lw_all := lw_g (lw_at lw_m2 30 rfl) rfl
theorem q355 : (Jvm.Cond.fieldLinkNest "EchoPens$Reader" (161 : Nat) "EchoPens" "NAMES" "[Ljava/lang/String;" "EchoPens") ∈ lw_tbl := lw_at lw_m2 31 rfl
theorem q357 : (Jvm.Cond.methodLink "EchoPens$Reader" (165 : Nat) ({ cls := "EchoPens$Reader", name := "isWord", desc := "(Ljava/lang/String;)Z" } : Jvm.MethodName)) ∈ lw_all := lw_g (lw_at lw_m2 33 rfl) rfl
theorem q358 : (Jvm.Cond.privateMethod ({ cls := "EchoPens$Reader", name := "isWord", desc := "(Ljava/lang/String;)Z" } : Jvm.MethodName)) ∈ lw_tbl := lw_at lw_m2 34 rfl
theorem q359 : (Jvm.Cond.instanceMethod ({ cls := "EchoPens$Reader", name := "isWord", desc := "(Ljava/lang/String;)Z" } : Jvm.MethodName)) ∈ lw_all := lw_g (lw_at lw_m2 35 rfl) rfl
theorem q360 : (Jvm.Cond.code ({ cls := "EchoPens$Reader", name := "isWord", desc := "(Ljava/lang/String;)Z" } : Jvm.MethodName) prog_7_method_4_code (4 : Nat) (Option.some Jvm.ClassFile.FieldType.boolean)) ∈ lw_all := lw_g (lw_at lw_m2 36 rfl) rfl
theorem q361 : (Jvm.Cond.methodLink "EchoPens$Reader" (46 : Nat) ({ cls := "java/lang/String", name := "length", desc := "()I" } : Jvm.MethodName)) ∈ lw_all := lw_g (lw_at lw_m2 37 rfl) rfl
theorem q371 : (Jvm.Cond.methodLink "EchoPens$Reader" (55 : Nat) ({ cls := "java/lang/String", name := "charAt", desc := "(I)C" } : Jvm.MethodName)) ∈ lw_all := lw_g (lw_at lw_m2 47 rfl) rfl
theorem q409 : (Jvm.Cond.methodLink "EchoPens$Reader" (169 : Nat) ({ cls := "EchoPens$Reader", name := "echoOf", desc := "(I)V" } : Jvm.MethodName)) ∈ lw_all := lw_g (lw_at lw_m2 85 rfl) rfl
theorem q410 : (Jvm.Cond.privateMethod ({ cls := "EchoPens$Reader", name := "echoOf", desc := "(I)V" } : Jvm.MethodName)) ∈ lw_tbl := lw_at lw_m2 86 rfl
theorem q411 : (Jvm.Cond.instanceMethod ({ cls := "EchoPens$Reader", name := "echoOf", desc := "(I)V" } : Jvm.MethodName)) ∈ lw_all := lw_g (lw_at lw_m2 87 rfl) rfl
theorem q412 : (Jvm.Cond.code ({ cls := "EchoPens$Reader", name := "echoOf", desc := "(I)V" } : Jvm.MethodName) prog_7_method_10_code (3 : Nat) (Option.none : Option Jvm.ClassFile.FieldType)) ∈ lw_all := lw_g (lw_at lw_m2 88 rfl) rfl
theorem q413 : (Jvm.Cond.methodLink "EchoPens$Reader" (115 : Nat) ({ cls := "EchoPens$Reader", name := "wordInto", desc := "([B)I" } : Jvm.MethodName)) ∈ lw_all := lw_g (lw_at lw_m2 89 rfl) rfl
theorem q414 : (Jvm.Cond.privateMethod ({ cls := "EchoPens$Reader", name := "wordInto", desc := "([B)I" } : Jvm.MethodName)) ∈ lw_tbl := lw_at lw_m2 90 rfl
theorem q415 : (Jvm.Cond.instanceMethod ({ cls := "EchoPens$Reader", name := "wordInto", desc := "([B)I" } : Jvm.MethodName)) ∈ lw_all := lw_g (lw_at lw_m2 91 rfl) rfl
theorem q416 : (Jvm.Cond.code ({ cls := "EchoPens$Reader", name := "wordInto", desc := "([B)I" } : Jvm.MethodName) prog_7_method_8_code (3 : Nat) (Option.some Jvm.ClassFile.FieldType.int)) ∈ lw_all := lw_g (lw_at lw_m2 92 rfl) rfl
theorem q417 : (Jvm.Cond.methodLink "EchoPens$Reader" (90 : Nat) ({ cls := "java/lang/System", name := "arraycopy", desc := "(Ljava/lang/Object;ILjava/lang/Object;II)V" } : Jvm.MethodName)) ∈ lw_all := lw_g (lw_at lw_m2 93 rfl) rfl
theorem q418 : (Jvm.Cond.methodLink "EchoPens$Reader" (122 : Nat) ({ cls := "EchoPens$Reader", name := "number", desc := "(II)I" } : Jvm.MethodName)) ∈ lw_all := lw_g (lw_at lw_m2 94 rfl) rfl
theorem q419 : (Jvm.Cond.privateMethod ({ cls := "EchoPens$Reader", name := "number", desc := "(II)I" } : Jvm.MethodName)) ∈ lw_tbl := lw_at lw_m2 95 rfl
theorem q420 : (Jvm.Cond.instanceMethod ({ cls := "EchoPens$Reader", name := "number", desc := "(II)I" } : Jvm.MethodName)) ∈ lw_all := lw_g (lw_at lw_m2 96 rfl) rfl
theorem q421 : (Jvm.Cond.code ({ cls := "EchoPens$Reader", name := "number", desc := "(II)I" } : Jvm.MethodName) prog_7_method_7_code (3 : Nat) (Option.some Jvm.ClassFile.FieldType.int)) ∈ lw_all := lw_g (lw_at lw_m2 97 rfl) rfl
theorem q422 : (Jvm.Cond.methodLink "EchoPens$Reader" (86 : Nat) ({ cls := "EchoPens$Reader", name := "other", desc := "(III)I" } : Jvm.MethodName)) ∈ lw_all := lw_g (lw_at lw_m2 98 rfl) rfl
theorem q423 : (Jvm.Cond.privateMethod ({ cls := "EchoPens$Reader", name := "other", desc := "(III)I" } : Jvm.MethodName)) ∈ lw_tbl := lw_at lw_m2 99 rfl
theorem q424 : (Jvm.Cond.instanceMethod ({ cls := "EchoPens$Reader", name := "other", desc := "(III)I" } : Jvm.MethodName)) ∈ lw_all := lw_g (lw_at lw_m2 100 rfl) rfl
theorem q425 : (Jvm.Cond.code ({ cls := "EchoPens$Reader", name := "other", desc := "(III)I" } : Jvm.MethodName) prog_7_method_6_code (5 : Nat) (Option.some Jvm.ClassFile.FieldType.int)) ∈ lw_all := lw_g (lw_at lw_m2 101 rfl) rfl
theorem q426 : (Jvm.Cond.methodLinkNest "EchoPens$Reader" (82 : Nat) ({ cls := "EchoPens", name := "has", desc := "(II)Z" } : Jvm.MethodName) "EchoPens") ∈ lw_tbl := lw_at lw_m2 102 rfl
theorem q429 : (Jvm.Cond.methodLink "EchoPens$Reader" (129 : Nat) ({ cls := "java/lang/Math", name := "max", desc := "(II)I" } : Jvm.MethodName)) ∈ lw_all := lw_g (lw_at lw_m2 105 rfl) rfl
theorem q432 : (Jvm.Cond.methodLink "EchoPens$Reader" (173 : Nat) ({ cls := "EchoPens$Reader", name := "penOf", desc := "()V" } : Jvm.MethodName)) ∈ lw_all := lw_g (lw_at lw_m2 108 rfl) rfl
theorem q433 : (Jvm.Cond.privateMethod ({ cls := "EchoPens$Reader", name := "penOf", desc := "()V" } : Jvm.MethodName)) ∈ lw_tbl := lw_at lw_m2 109 rfl
theorem q434 : (Jvm.Cond.instanceMethod ({ cls := "EchoPens$Reader", name := "penOf", desc := "()V" } : Jvm.MethodName)) ∈ lw_all := lw_g (lw_at lw_m2 110 rfl) rfl
theorem q435 : (Jvm.Cond.code ({ cls := "EchoPens$Reader", name := "penOf", desc := "()V" } : Jvm.MethodName) prog_7_method_11_code (1 : Nat) (Option.none : Option Jvm.ClassFile.FieldType)) ∈ lw_all := lw_g (lw_at lw_m2 111 rfl) rfl
theorem q436 : (Jvm.Cond.methodLink "EchoPens$Reader" (140 : Nat) ({ cls := "EchoPens$Reader", name := "vowel", desc := "()I" } : Jvm.MethodName)) ∈ lw_all := lw_g (lw_at lw_m2 112 rfl) rfl
theorem q437 : (Jvm.Cond.privateMethod ({ cls := "EchoPens$Reader", name := "vowel", desc := "()I" } : Jvm.MethodName)) ∈ lw_tbl := lw_at lw_m2 113 rfl
theorem q438 : (Jvm.Cond.instanceMethod ({ cls := "EchoPens$Reader", name := "vowel", desc := "()I" } : Jvm.MethodName)) ∈ lw_all := lw_g (lw_at lw_m2 114 rfl) rfl
theorem q439 : (Jvm.Cond.code ({ cls := "EchoPens$Reader", name := "vowel", desc := "()I" } : Jvm.MethodName) prog_7_method_9_code (2 : Nat) (Option.some Jvm.ClassFile.FieldType.int)) ∈ lw_all := lw_g (lw_at lw_m2 115 rfl) rfl
theorem q440 : (Jvm.Cond.stringRef "EchoPens$Reader" (96 : Nat) "aeiou") ∈ lw_tbl := lw_at lw_m2 116 rfl
theorem q441 : (Jvm.Cond.methodLink "EchoPens$Reader" (98 : Nat) ({ cls := "java/lang/String", name := "indexOf", desc := "(I)I" } : Jvm.MethodName)) ∈ lw_all := lw_g (lw_at lw_m2 117 rfl) rfl
theorem q498 : (Jvm.Cond.methodLink "EchoPens$Reader" (176 : Nat) ({ cls := "EchoPens$Reader", name := "orderOf", desc := "()V" } : Jvm.MethodName)) ∈ lw_all := lw_g (lw_at lw_m2 174 rfl) rfl
theorem q499 : (Jvm.Cond.privateMethod ({ cls := "EchoPens$Reader", name := "orderOf", desc := "()V" } : Jvm.MethodName)) ∈ lw_tbl := lw_at lw_m2 175 rfl
theorem q500 : (Jvm.Cond.instanceMethod ({ cls := "EchoPens$Reader", name := "orderOf", desc := "()V" } : Jvm.MethodName)) ∈ lw_all := lw_g (lw_at lw_m2 176 rfl) rfl
theorem q501 : (Jvm.Cond.code ({ cls := "EchoPens$Reader", name := "orderOf", desc := "()V" } : Jvm.MethodName) prog_7_method_12_code (2 : Nat) (Option.none : Option Jvm.ClassFile.FieldType)) ∈ lw_all := lw_g (lw_at lw_m2 177 rfl) rfl
theorem q503 : (Jvm.Cond.methodLinkNest "EchoPens$Reader" (149 : Nat) ({ cls := "EchoPens$Order", name := "<init>", desc := "()V" } : Jvm.MethodName) "EchoPens") ∈ lw_tbl := lw_at lw_m2 179 rfl
theorem q508 : (Jvm.Cond.fieldLinkNest "EchoPens$Reader" (150 : Nat) "EchoPens$Order" "end" "[B" "EchoPens") ∈ lw_tbl := lw_at lw_m2 184 rfl
theorem q510 : (Jvm.Cond.fieldLinkNest "EchoPens$Reader" (153 : Nat) "EchoPens$Order" "many" "I" "EchoPens") ∈ lw_tbl := lw_at lw_m2 186 rfl
theorem q512 : (Jvm.Cond.fieldLinkNest "EchoPens$Reader" (155 : Nat) "EchoPens$Order" "returns" "I" "EchoPens") ∈ lw_tbl := lw_at lw_m2 188 rfl
theorem q514 : (Jvm.Cond.fieldLinkNest "EchoPens$Reader" (158 : Nat) "EchoPens$Order" "price" "I" "EchoPens") ∈ lw_tbl := lw_at lw_m2 190 rfl
theorem q525 : (Jvm.Cond.methodLink "EchoPens$Reader" (185 : Nat) ({ cls := "EchoPens$Farm", name := "in", desc := "(I)I" } : Jvm.MethodName)) ∈ lw_all := lw_g (lw_at lw_m2 201 rfl) rfl
theorem q529 : (Jvm.Cond.methodLink "EchoPens$Reader" (188 : Nat) ({ cls := "java/lang/Integer", name := "bitCount", desc := "(I)I" } : Jvm.MethodName)) ∈ lw_all := lw_g (lw_at lw_m2 205 rfl) rfl
theorem in_X5 : ∀ w ∈ wsX50, w ∈ lw_all := lw_in wsX50 [324, 326, 328, 330, 332, 334, 336, 338, 340, 342, 344] (by decide +kernel) (by decide +kernel)
