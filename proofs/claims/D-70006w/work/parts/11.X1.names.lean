/-! EchoPens$Farm -/
set_option maxRecDepth 100000
def RX1 : String := "EchoPens$Farm"
def TX1 : u_T := fun k => match k with
  | 0 => ("EchoPens$Farm", "distances", "[I", true)
  | 1 => ("EchoPens$Farm", "vowels", "[I", true)
  | 2 => ("EchoPens$Farm", "breeds", "[I", true)
  | 3 => ("EchoPens$Farm", "words", "[[B", true)
  | 4 => ("EchoPens$Farm", "many", "[I", true)
  | 5 => ("EchoPens$Farm", "louds", "[I", true)
  | 6 => ("EchoPens$Farm", "pens", "[I", true)
  | 7 => ("EchoPens$Farm", "echoMany", "I", false)
  | 8 => ("EchoPens$Farm", "done", "I", false)
  | 9 => ("EchoPens$Farm", "week", "I", false)
  | _ => ("EchoPens$Farm", "money", "I", false)
def tyX1 : Nat → FieldType := fun k => match k with
  | 0 => .array .int
  | 1 => .array .int
  | 2 => .array .int
  | 3 => .array (.array .byte)
  | 4 => .array .int
  | 5 => .array .int
  | 6 => .array .int
  | 7 => .int
  | 8 => .int
  | 9 => .int
  | _ => .int
abbrev wsX10 : List Cond := u_ws RX1 TX1 11
theorem nmX1 : ∀ a, a < 11 → ∀ b, b < 11 → a ≠ b → (TX1 a).2.1 ≠ (TX1 b).2.1 := by decide +kernel
theorem tyX1_ok : ∀ k, k < 11 → parseFieldDescriptor (TX1 k).2.2.1 = some (tyX1 k) := by decide +kernel
abbrev cX1_init : ByteArray := prog_2_method_1_code
def yX1_init : MethodName := ⟨RX1, "<init>", "()V"⟩
def dkwX1_init_2 : List UInt8 := [181, 0, 29, 42, 8, 188, 10, 181, 0, 32, 177]
abbrev dktX1_init_2 : List UInt8 := dkwX1_init_2 ++ []
def dkwX1_init_1 : List UInt8 := [181, 0, 18, 42, 8, 8, 197, 0, 21, 2, 181, 0, 23, 42, 8, 188, 10, 181, 0, 26, 42, 8, 188, 10]
abbrev dktX1_init_1 : List UInt8 := dkwX1_init_1 ++ dktX1_init_2
def dkwX1_init_0 : List UInt8 := [42, 183, 0, 3, 42, 7, 188, 10, 181, 0, 9, 42, 7, 188, 10, 181, 0, 15, 42, 8, 188, 10]
abbrev dktX1_init_0 : List UInt8 := dkwX1_init_0 ++ dktX1_init_1
theorem dksX1_init_0 : cX1_init.data.toList.drop 0 = dktX1_init_0 := by decide +kernel
theorem dksX1_init_1 : cX1_init.data.toList.drop 22 = dktX1_init_1 := dk_seg dksX1_init_0 22 rfl rfl
theorem dksX1_init_2 : cX1_init.data.toList.drop 46 = dktX1_init_2 := dk_seg dksX1_init_1 24 rfl rfl
theorem dX1_init_0 : decode cX1_init 0 = .ok (.aload_n 0, 1) := dk_42 (dk_at dksX1_init_0 0 rfl rfl)
theorem dX1_init_1 : decode cX1_init 1 = .ok (.invokespecial 3, 3) := dk_183 0 3 (dk_at dksX1_init_0 1 rfl rfl)
theorem dX1_init_4 : decode cX1_init 4 = .ok (.aload_n 0, 1) := dk_42 (dk_at dksX1_init_0 4 rfl rfl)
theorem dX1_init_5 : decode cX1_init 5 = .ok (.iconst 4, 1) := dk_7 (dk_at dksX1_init_0 5 rfl rfl)
theorem dX1_init_6 : decode cX1_init 6 = .ok (.newarray .int, 2) := dk_188_10 (dk_at dksX1_init_0 6 rfl rfl)
theorem dX1_init_8 : decode cX1_init 8 = .ok (.putfield 9, 3) := dk_181 0 9 (dk_at dksX1_init_0 8 rfl rfl)
theorem dX1_init_11 : decode cX1_init 11 = .ok (.aload_n 0, 1) := dk_42 (dk_at dksX1_init_0 11 rfl rfl)
theorem dX1_init_12 : decode cX1_init 12 = .ok (.iconst 4, 1) := dk_7 (dk_at dksX1_init_0 12 rfl rfl)
theorem dX1_init_13 : decode cX1_init 13 = .ok (.newarray .int, 2) := dk_188_10 (dk_at dksX1_init_0 13 rfl rfl)
theorem dX1_init_15 : decode cX1_init 15 = .ok (.putfield 15, 3) := dk_181 0 15 (dk_at dksX1_init_0 15 rfl rfl)
theorem dX1_init_18 : decode cX1_init 18 = .ok (.aload_n 0, 1) := dk_42 (dk_at dksX1_init_0 18 rfl rfl)
theorem dX1_init_19 : decode cX1_init 19 = .ok (.iconst 5, 1) := dk_8 (dk_at dksX1_init_0 19 rfl rfl)
theorem dX1_init_20 : decode cX1_init 20 = .ok (.newarray .int, 2) := dk_188_10 (dk_at dksX1_init_0 20 rfl rfl)
theorem dX1_init_22 : decode cX1_init 22 = .ok (.putfield 18, 3) := dk_181 0 18 (dk_at dksX1_init_1 0 rfl rfl)
theorem dX1_init_25 : decode cX1_init 25 = .ok (.aload_n 0, 1) := dk_42 (dk_at dksX1_init_1 3 rfl rfl)
theorem dX1_init_26 : decode cX1_init 26 = .ok (.iconst 5, 1) := dk_8 (dk_at dksX1_init_1 4 rfl rfl)
theorem dX1_init_27 : decode cX1_init 27 = .ok (.iconst 5, 1) := dk_8 (dk_at dksX1_init_1 5 rfl rfl)
theorem dX1_init_28 : decode cX1_init 28 = .ok (.multianewarray 21 2, 4) := by decide +kernel
theorem dX1_init_32 : decode cX1_init 32 = .ok (.putfield 23, 3) := dk_181 0 23 (dk_at dksX1_init_1 10 rfl rfl)
theorem dX1_init_35 : decode cX1_init 35 = .ok (.aload_n 0, 1) := dk_42 (dk_at dksX1_init_1 13 rfl rfl)
theorem dX1_init_36 : decode cX1_init 36 = .ok (.iconst 5, 1) := dk_8 (dk_at dksX1_init_1 14 rfl rfl)
theorem dX1_init_37 : decode cX1_init 37 = .ok (.newarray .int, 2) := dk_188_10 (dk_at dksX1_init_1 15 rfl rfl)
theorem dX1_init_39 : decode cX1_init 39 = .ok (.putfield 26, 3) := dk_181 0 26 (dk_at dksX1_init_1 17 rfl rfl)
theorem dX1_init_42 : decode cX1_init 42 = .ok (.aload_n 0, 1) := dk_42 (dk_at dksX1_init_1 20 rfl rfl)
theorem dX1_init_43 : decode cX1_init 43 = .ok (.iconst 5, 1) := dk_8 (dk_at dksX1_init_1 21 rfl rfl)
theorem dX1_init_44 : decode cX1_init 44 = .ok (.newarray .int, 2) := dk_188_10 (dk_at dksX1_init_1 22 rfl rfl)
theorem dX1_init_46 : decode cX1_init 46 = .ok (.putfield 29, 3) := dk_181 0 29 (dk_at dksX1_init_2 0 rfl rfl)
theorem dX1_init_49 : decode cX1_init 49 = .ok (.aload_n 0, 1) := dk_42 (dk_at dksX1_init_2 3 rfl rfl)
theorem dX1_init_50 : decode cX1_init 50 = .ok (.iconst 5, 1) := dk_8 (dk_at dksX1_init_2 4 rfl rfl)
theorem dX1_init_51 : decode cX1_init 51 = .ok (.newarray .int, 2) := dk_188_10 (dk_at dksX1_init_2 5 rfl rfl)
theorem dX1_init_53 : decode cX1_init 53 = .ok (.putfield 32, 3) := dk_181 0 32 (dk_at dksX1_init_2 7 rfl rfl)
theorem dX1_init_56 : decode cX1_init 56 = .ok (.return_, 1) := dk_177 (dk_at dksX1_init_2 10 rfl rfl)
abbrev cX1_in : ByteArray := prog_2_method_8_code
def yX1_in : MethodName := ⟨RX1, "in", "(I)I"⟩
def dkwX1_in_1 : List UInt8 := [29, 120, 167, 0, 4, 3, 128, 61, 132, 3, 1, 167, 255, 225, 28, 172]
abbrev dktX1_in_1 : List UInt8 := dkwX1_in_1 ++ []
def dkwX1_in_0 : List UInt8 := [3, 61, 3, 62, 29, 42, 180, 0, 41, 162, 0, 29, 28, 42, 180, 0, 32, 29, 46, 27, 160, 0, 9, 4]
abbrev dktX1_in_0 : List UInt8 := dkwX1_in_0 ++ dktX1_in_1
theorem dksX1_in_0 : cX1_in.data.toList.drop 0 = dktX1_in_0 := by decide +kernel
theorem dksX1_in_1 : cX1_in.data.toList.drop 24 = dktX1_in_1 := dk_seg dksX1_in_0 24 rfl rfl
theorem dX1_in_0 : decode cX1_in 0 = .ok (.iconst 0, 1) := dk_3 (dk_at dksX1_in_0 0 rfl rfl)
theorem dX1_in_1 : decode cX1_in 1 = .ok (.istore_n 2, 1) := dk_61 (dk_at dksX1_in_0 1 rfl rfl)
theorem dX1_in_2 : decode cX1_in 2 = .ok (.iconst 0, 1) := dk_3 (dk_at dksX1_in_0 2 rfl rfl)
theorem dX1_in_3 : decode cX1_in 3 = .ok (.istore_n 3, 1) := dk_62 (dk_at dksX1_in_0 3 rfl rfl)
theorem dX1_in_4 : decode cX1_in 4 = .ok (.iload_n 3, 1) := dk_29 (dk_at dksX1_in_0 4 rfl rfl)
theorem dX1_in_5 : decode cX1_in 5 = .ok (.aload_n 0, 1) := dk_42 (dk_at dksX1_in_0 5 rfl rfl)
theorem dX1_in_6 : decode cX1_in 6 = .ok (.getfield 41, 3) := dk_180 0 41 (dk_at dksX1_in_0 6 rfl rfl)
theorem dX1_in_9 : decode cX1_in 9 = .ok (.if_icmp .ge 29, 3) := dk_162 0 29 (dk_at dksX1_in_0 9 rfl rfl)
theorem dX1_in_12 : decode cX1_in 12 = .ok (.iload_n 2, 1) := dk_28 (dk_at dksX1_in_0 12 rfl rfl)
theorem dX1_in_13 : decode cX1_in 13 = .ok (.aload_n 0, 1) := dk_42 (dk_at dksX1_in_0 13 rfl rfl)
theorem dX1_in_14 : decode cX1_in 14 = .ok (.getfield 32, 3) := dk_180 0 32 (dk_at dksX1_in_0 14 rfl rfl)
theorem dX1_in_17 : decode cX1_in 17 = .ok (.iload_n 3, 1) := dk_29 (dk_at dksX1_in_0 17 rfl rfl)
theorem dX1_in_18 : decode cX1_in 18 = .ok (.iaload, 1) := dk_46 (dk_at dksX1_in_0 18 rfl rfl)
theorem dX1_in_19 : decode cX1_in 19 = .ok (.iload_n 1, 1) := dk_27 (dk_at dksX1_in_0 19 rfl rfl)
theorem dX1_in_20 : decode cX1_in 20 = .ok (.if_icmp .ne 9, 3) := dk_160 0 9 (dk_at dksX1_in_0 20 rfl rfl)
theorem dX1_in_23 : decode cX1_in 23 = .ok (.iconst 1, 1) := dk_4 (dk_at dksX1_in_0 23 rfl rfl)
theorem dX1_in_24 : decode cX1_in 24 = .ok (.iload_n 3, 1) := dk_29 (dk_at dksX1_in_1 0 rfl rfl)
theorem dX1_in_25 : decode cX1_in 25 = .ok (.ishl, 1) := dk_120 (dk_at dksX1_in_1 1 rfl rfl)
theorem dX1_in_26 : decode cX1_in 26 = .ok (.goto 4, 3) := dk_167 0 4 (dk_at dksX1_in_1 2 rfl rfl)
theorem dX1_in_29 : decode cX1_in 29 = .ok (.iconst 0, 1) := dk_3 (dk_at dksX1_in_1 5 rfl rfl)
theorem dX1_in_30 : decode cX1_in 30 = .ok (.ior, 1) := dk_128 (dk_at dksX1_in_1 6 rfl rfl)
theorem dX1_in_31 : decode cX1_in 31 = .ok (.istore_n 2, 1) := dk_61 (dk_at dksX1_in_1 7 rfl rfl)
theorem dX1_in_32 : decode cX1_in 32 = .ok (.iinc 3 1, 3) := dk_132 3 1 (dk_at dksX1_in_1 8 rfl rfl)
theorem dX1_in_35 : decode cX1_in 35 = .ok (.goto (-31), 3) := dk_167 255 225 (dk_at dksX1_in_1 11 rfl rfl)
theorem dX1_in_38 : decode cX1_in 38 = .ok (.iload_n 2, 1) := dk_28 (dk_at dksX1_in_1 14 rfl rfl)
theorem dX1_in_39 : decode cX1_in 39 = .ok (.ireturn, 1) := dk_172 (dk_at dksX1_in_1 15 rfl rfl)
abbrev cX1_takes : ByteArray := prog_2_method_2_code
def yX1_takes : MethodName := ⟨RX1, "takes", "(LEchoPens$Farm;)V"⟩
def dkwX1_takes_6 : List UInt8 := [180, 0, 51, 181, 0, 51, 177]
abbrev dktX1_takes_6 : List UInt8 := dkwX1_takes_6 ++ []
def dkwX1_takes_5 : List UInt8 := [180, 0, 41, 181, 0, 41, 42, 43, 180, 0, 45, 181, 0, 45, 42, 43, 180, 0, 48, 181, 0, 48, 42, 43]
abbrev dktX1_takes_5 : List UInt8 := dkwX1_takes_5 ++ dktX1_takes_6
def dkwX1_takes_4 : List UInt8 := [180, 0, 29, 3, 8, 184, 0, 35, 43, 180, 0, 32, 3, 42, 180, 0, 32, 3, 8, 184, 0, 35, 42, 43]
abbrev dktX1_takes_4 : List UInt8 := dkwX1_takes_4 ++ dktX1_takes_5
def dkwX1_takes_3 : List UInt8 := [167, 255, 230, 43, 180, 0, 26, 3, 42, 180, 0, 26, 3, 8, 184, 0, 35, 43, 180, 0, 29, 3, 42]
abbrev dktX1_takes_3 : List UInt8 := dkwX1_takes_3 ++ dktX1_takes_4
def dkwX1_takes_2 : List UInt8 := [162, 0, 27, 43, 180, 0, 23, 28, 50, 3, 42, 180, 0, 23, 28, 50, 3, 8, 184, 0, 35, 132, 2, 1]
abbrev dktX1_takes_2 : List UInt8 := dkwX1_takes_2 ++ dktX1_takes_3
def dkwX1_takes_1 : List UInt8 := [7, 184, 0, 35, 43, 180, 0, 18, 3, 42, 180, 0, 18, 3, 8, 184, 0, 35, 3, 61, 28, 8]
abbrev dktX1_takes_1 : List UInt8 := dkwX1_takes_1 ++ dktX1_takes_2
def dkwX1_takes_0 : List UInt8 := [43, 180, 0, 9, 3, 42, 180, 0, 9, 3, 7, 184, 0, 35, 43, 180, 0, 15, 3, 42, 180, 0, 15, 3]
abbrev dktX1_takes_0 : List UInt8 := dkwX1_takes_0 ++ dktX1_takes_1
theorem dksX1_takes_0 : cX1_takes.data.toList.drop 0 = dktX1_takes_0 := by decide +kernel
theorem dksX1_takes_1 : cX1_takes.data.toList.drop 24 = dktX1_takes_1 := dk_seg dksX1_takes_0 24 rfl rfl
theorem dksX1_takes_2 : cX1_takes.data.toList.drop 46 = dktX1_takes_2 := dk_seg dksX1_takes_1 22 rfl rfl
theorem dksX1_takes_3 : cX1_takes.data.toList.drop 70 = dktX1_takes_3 := dk_seg dksX1_takes_2 24 rfl rfl
theorem dksX1_takes_4 : cX1_takes.data.toList.drop 93 = dktX1_takes_4 := dk_seg dksX1_takes_3 23 rfl rfl
theorem dksX1_takes_5 : cX1_takes.data.toList.drop 117 = dktX1_takes_5 := dk_seg dksX1_takes_4 24 rfl rfl
theorem dksX1_takes_6 : cX1_takes.data.toList.drop 141 = dktX1_takes_6 := dk_seg dksX1_takes_5 24 rfl rfl
theorem dX1_takes_0 : decode cX1_takes 0 = .ok (.aload_n 1, 1) := dk_43 (dk_at dksX1_takes_0 0 rfl rfl)
theorem dX1_takes_1 : decode cX1_takes 1 = .ok (.getfield 9, 3) := dk_180 0 9 (dk_at dksX1_takes_0 1 rfl rfl)
theorem dX1_takes_4 : decode cX1_takes 4 = .ok (.iconst 0, 1) := dk_3 (dk_at dksX1_takes_0 4 rfl rfl)
theorem dX1_takes_5 : decode cX1_takes 5 = .ok (.aload_n 0, 1) := dk_42 (dk_at dksX1_takes_0 5 rfl rfl)
theorem dX1_takes_6 : decode cX1_takes 6 = .ok (.getfield 9, 3) := dk_180 0 9 (dk_at dksX1_takes_0 6 rfl rfl)
theorem dX1_takes_9 : decode cX1_takes 9 = .ok (.iconst 0, 1) := dk_3 (dk_at dksX1_takes_0 9 rfl rfl)
theorem dX1_takes_10 : decode cX1_takes 10 = .ok (.iconst 4, 1) := dk_7 (dk_at dksX1_takes_0 10 rfl rfl)
theorem dX1_takes_11 : decode cX1_takes 11 = .ok (.invokestatic 35, 3) := dk_184 0 35 (dk_at dksX1_takes_0 11 rfl rfl)
theorem dX1_takes_14 : decode cX1_takes 14 = .ok (.aload_n 1, 1) := dk_43 (dk_at dksX1_takes_0 14 rfl rfl)
theorem dX1_takes_15 : decode cX1_takes 15 = .ok (.getfield 15, 3) := dk_180 0 15 (dk_at dksX1_takes_0 15 rfl rfl)
theorem dX1_takes_18 : decode cX1_takes 18 = .ok (.iconst 0, 1) := dk_3 (dk_at dksX1_takes_0 18 rfl rfl)
theorem dX1_takes_19 : decode cX1_takes 19 = .ok (.aload_n 0, 1) := dk_42 (dk_at dksX1_takes_0 19 rfl rfl)
theorem dX1_takes_20 : decode cX1_takes 20 = .ok (.getfield 15, 3) := dk_180 0 15 (dk_at dksX1_takes_0 20 rfl rfl)
theorem dX1_takes_23 : decode cX1_takes 23 = .ok (.iconst 0, 1) := dk_3 (dk_at dksX1_takes_0 23 rfl rfl)
theorem dX1_takes_24 : decode cX1_takes 24 = .ok (.iconst 4, 1) := dk_7 (dk_at dksX1_takes_1 0 rfl rfl)
theorem dX1_takes_25 : decode cX1_takes 25 = .ok (.invokestatic 35, 3) := dk_184 0 35 (dk_at dksX1_takes_1 1 rfl rfl)
theorem dX1_takes_28 : decode cX1_takes 28 = .ok (.aload_n 1, 1) := dk_43 (dk_at dksX1_takes_1 4 rfl rfl)
theorem dX1_takes_29 : decode cX1_takes 29 = .ok (.getfield 18, 3) := dk_180 0 18 (dk_at dksX1_takes_1 5 rfl rfl)
theorem dX1_takes_32 : decode cX1_takes 32 = .ok (.iconst 0, 1) := dk_3 (dk_at dksX1_takes_1 8 rfl rfl)
theorem dX1_takes_33 : decode cX1_takes 33 = .ok (.aload_n 0, 1) := dk_42 (dk_at dksX1_takes_1 9 rfl rfl)
theorem dX1_takes_34 : decode cX1_takes 34 = .ok (.getfield 18, 3) := dk_180 0 18 (dk_at dksX1_takes_1 10 rfl rfl)
theorem dX1_takes_37 : decode cX1_takes 37 = .ok (.iconst 0, 1) := dk_3 (dk_at dksX1_takes_1 13 rfl rfl)
theorem dX1_takes_38 : decode cX1_takes 38 = .ok (.iconst 5, 1) := dk_8 (dk_at dksX1_takes_1 14 rfl rfl)
theorem dX1_takes_39 : decode cX1_takes 39 = .ok (.invokestatic 35, 3) := dk_184 0 35 (dk_at dksX1_takes_1 15 rfl rfl)
theorem dX1_takes_42 : decode cX1_takes 42 = .ok (.iconst 0, 1) := dk_3 (dk_at dksX1_takes_1 18 rfl rfl)
theorem dX1_takes_43 : decode cX1_takes 43 = .ok (.istore_n 2, 1) := dk_61 (dk_at dksX1_takes_1 19 rfl rfl)
theorem dX1_takes_44 : decode cX1_takes 44 = .ok (.iload_n 2, 1) := dk_28 (dk_at dksX1_takes_1 20 rfl rfl)
theorem dX1_takes_45 : decode cX1_takes 45 = .ok (.iconst 5, 1) := dk_8 (dk_at dksX1_takes_1 21 rfl rfl)
theorem dX1_takes_46 : decode cX1_takes 46 = .ok (.if_icmp .ge 27, 3) := dk_162 0 27 (dk_at dksX1_takes_2 0 rfl rfl)
theorem dX1_takes_49 : decode cX1_takes 49 = .ok (.aload_n 1, 1) := dk_43 (dk_at dksX1_takes_2 3 rfl rfl)
theorem dX1_takes_50 : decode cX1_takes 50 = .ok (.getfield 23, 3) := dk_180 0 23 (dk_at dksX1_takes_2 4 rfl rfl)
theorem dX1_takes_53 : decode cX1_takes 53 = .ok (.iload_n 2, 1) := dk_28 (dk_at dksX1_takes_2 7 rfl rfl)
theorem dX1_takes_54 : decode cX1_takes 54 = .ok (.aaload, 1) := dk_50 (dk_at dksX1_takes_2 8 rfl rfl)
theorem dX1_takes_55 : decode cX1_takes 55 = .ok (.iconst 0, 1) := dk_3 (dk_at dksX1_takes_2 9 rfl rfl)
theorem dX1_takes_56 : decode cX1_takes 56 = .ok (.aload_n 0, 1) := dk_42 (dk_at dksX1_takes_2 10 rfl rfl)
theorem dX1_takes_57 : decode cX1_takes 57 = .ok (.getfield 23, 3) := dk_180 0 23 (dk_at dksX1_takes_2 11 rfl rfl)
theorem dX1_takes_60 : decode cX1_takes 60 = .ok (.iload_n 2, 1) := dk_28 (dk_at dksX1_takes_2 14 rfl rfl)
theorem dX1_takes_61 : decode cX1_takes 61 = .ok (.aaload, 1) := dk_50 (dk_at dksX1_takes_2 15 rfl rfl)
theorem dX1_takes_62 : decode cX1_takes 62 = .ok (.iconst 0, 1) := dk_3 (dk_at dksX1_takes_2 16 rfl rfl)
theorem dX1_takes_63 : decode cX1_takes 63 = .ok (.iconst 5, 1) := dk_8 (dk_at dksX1_takes_2 17 rfl rfl)
theorem dX1_takes_64 : decode cX1_takes 64 = .ok (.invokestatic 35, 3) := dk_184 0 35 (dk_at dksX1_takes_2 18 rfl rfl)
theorem dX1_takes_67 : decode cX1_takes 67 = .ok (.iinc 2 1, 3) := dk_132 2 1 (dk_at dksX1_takes_2 21 rfl rfl)
theorem dX1_takes_70 : decode cX1_takes 70 = .ok (.goto (-26), 3) := dk_167 255 230 (dk_at dksX1_takes_3 0 rfl rfl)
theorem dX1_takes_73 : decode cX1_takes 73 = .ok (.aload_n 1, 1) := dk_43 (dk_at dksX1_takes_3 3 rfl rfl)
theorem dX1_takes_74 : decode cX1_takes 74 = .ok (.getfield 26, 3) := dk_180 0 26 (dk_at dksX1_takes_3 4 rfl rfl)
theorem dX1_takes_77 : decode cX1_takes 77 = .ok (.iconst 0, 1) := dk_3 (dk_at dksX1_takes_3 7 rfl rfl)
theorem dX1_takes_78 : decode cX1_takes 78 = .ok (.aload_n 0, 1) := dk_42 (dk_at dksX1_takes_3 8 rfl rfl)
theorem dX1_takes_79 : decode cX1_takes 79 = .ok (.getfield 26, 3) := dk_180 0 26 (dk_at dksX1_takes_3 9 rfl rfl)
theorem dX1_takes_82 : decode cX1_takes 82 = .ok (.iconst 0, 1) := dk_3 (dk_at dksX1_takes_3 12 rfl rfl)
theorem dX1_takes_83 : decode cX1_takes 83 = .ok (.iconst 5, 1) := dk_8 (dk_at dksX1_takes_3 13 rfl rfl)
theorem dX1_takes_84 : decode cX1_takes 84 = .ok (.invokestatic 35, 3) := dk_184 0 35 (dk_at dksX1_takes_3 14 rfl rfl)
theorem dX1_takes_87 : decode cX1_takes 87 = .ok (.aload_n 1, 1) := dk_43 (dk_at dksX1_takes_3 17 rfl rfl)
theorem dX1_takes_88 : decode cX1_takes 88 = .ok (.getfield 29, 3) := dk_180 0 29 (dk_at dksX1_takes_3 18 rfl rfl)
theorem dX1_takes_91 : decode cX1_takes 91 = .ok (.iconst 0, 1) := dk_3 (dk_at dksX1_takes_3 21 rfl rfl)
theorem dX1_takes_92 : decode cX1_takes 92 = .ok (.aload_n 0, 1) := dk_42 (dk_at dksX1_takes_3 22 rfl rfl)
theorem dX1_takes_93 : decode cX1_takes 93 = .ok (.getfield 29, 3) := dk_180 0 29 (dk_at dksX1_takes_4 0 rfl rfl)
theorem dX1_takes_96 : decode cX1_takes 96 = .ok (.iconst 0, 1) := dk_3 (dk_at dksX1_takes_4 3 rfl rfl)
theorem dX1_takes_97 : decode cX1_takes 97 = .ok (.iconst 5, 1) := dk_8 (dk_at dksX1_takes_4 4 rfl rfl)
theorem dX1_takes_98 : decode cX1_takes 98 = .ok (.invokestatic 35, 3) := dk_184 0 35 (dk_at dksX1_takes_4 5 rfl rfl)
theorem dX1_takes_101 : decode cX1_takes 101 = .ok (.aload_n 1, 1) := dk_43 (dk_at dksX1_takes_4 8 rfl rfl)
theorem dX1_takes_102 : decode cX1_takes 102 = .ok (.getfield 32, 3) := dk_180 0 32 (dk_at dksX1_takes_4 9 rfl rfl)
theorem dX1_takes_105 : decode cX1_takes 105 = .ok (.iconst 0, 1) := dk_3 (dk_at dksX1_takes_4 12 rfl rfl)
theorem dX1_takes_106 : decode cX1_takes 106 = .ok (.aload_n 0, 1) := dk_42 (dk_at dksX1_takes_4 13 rfl rfl)
theorem dX1_takes_107 : decode cX1_takes 107 = .ok (.getfield 32, 3) := dk_180 0 32 (dk_at dksX1_takes_4 14 rfl rfl)
theorem dX1_takes_110 : decode cX1_takes 110 = .ok (.iconst 0, 1) := dk_3 (dk_at dksX1_takes_4 17 rfl rfl)
theorem dX1_takes_111 : decode cX1_takes 111 = .ok (.iconst 5, 1) := dk_8 (dk_at dksX1_takes_4 18 rfl rfl)
theorem dX1_takes_112 : decode cX1_takes 112 = .ok (.invokestatic 35, 3) := dk_184 0 35 (dk_at dksX1_takes_4 19 rfl rfl)
theorem dX1_takes_115 : decode cX1_takes 115 = .ok (.aload_n 0, 1) := dk_42 (dk_at dksX1_takes_4 22 rfl rfl)
theorem dX1_takes_116 : decode cX1_takes 116 = .ok (.aload_n 1, 1) := dk_43 (dk_at dksX1_takes_4 23 rfl rfl)
theorem dX1_takes_117 : decode cX1_takes 117 = .ok (.getfield 41, 3) := dk_180 0 41 (dk_at dksX1_takes_5 0 rfl rfl)
theorem dX1_takes_120 : decode cX1_takes 120 = .ok (.putfield 41, 3) := dk_181 0 41 (dk_at dksX1_takes_5 3 rfl rfl)
theorem dX1_takes_123 : decode cX1_takes 123 = .ok (.aload_n 0, 1) := dk_42 (dk_at dksX1_takes_5 6 rfl rfl)
theorem dX1_takes_124 : decode cX1_takes 124 = .ok (.aload_n 1, 1) := dk_43 (dk_at dksX1_takes_5 7 rfl rfl)
theorem dX1_takes_125 : decode cX1_takes 125 = .ok (.getfield 45, 3) := dk_180 0 45 (dk_at dksX1_takes_5 8 rfl rfl)
theorem dX1_takes_128 : decode cX1_takes 128 = .ok (.putfield 45, 3) := dk_181 0 45 (dk_at dksX1_takes_5 11 rfl rfl)
theorem dX1_takes_131 : decode cX1_takes 131 = .ok (.aload_n 0, 1) := dk_42 (dk_at dksX1_takes_5 14 rfl rfl)
theorem dX1_takes_132 : decode cX1_takes 132 = .ok (.aload_n 1, 1) := dk_43 (dk_at dksX1_takes_5 15 rfl rfl)
theorem dX1_takes_133 : decode cX1_takes 133 = .ok (.getfield 48, 3) := dk_180 0 48 (dk_at dksX1_takes_5 16 rfl rfl)
theorem dX1_takes_136 : decode cX1_takes 136 = .ok (.putfield 48, 3) := dk_181 0 48 (dk_at dksX1_takes_5 19 rfl rfl)
theorem dX1_takes_139 : decode cX1_takes 139 = .ok (.aload_n 0, 1) := dk_42 (dk_at dksX1_takes_5 22 rfl rfl)
theorem dX1_takes_140 : decode cX1_takes 140 = .ok (.aload_n 1, 1) := dk_43 (dk_at dksX1_takes_5 23 rfl rfl)
theorem dX1_takes_141 : decode cX1_takes 141 = .ok (.getfield 51, 3) := dk_180 0 51 (dk_at dksX1_takes_6 0 rfl rfl)
theorem dX1_takes_144 : decode cX1_takes 144 = .ok (.putfield 51, 3) := dk_181 0 51 (dk_at dksX1_takes_6 3 rfl rfl)
theorem dX1_takes_147 : decode cX1_takes 147 = .ok (.return_, 1) := dk_177 (dk_at dksX1_takes_6 6 rfl rfl)
abbrev cX1_silent : ByteArray := prog_2_method_9_code
def yX1_silent : MethodName := ⟨RX1, "silent", "()I"⟩
def dkwX1_silent_1 : List UInt8 := [182, 0, 58, 153, 0, 9, 4, 28, 120, 167, 0, 4, 3, 128, 60, 132, 2, 1, 167, 255, 219, 27, 172]
abbrev dktX1_silent_1 : List UInt8 := dkwX1_silent_1 ++ []
def dkwX1_silent_0 : List UInt8 := [3, 60, 3, 61, 28, 42, 180, 0, 41, 162, 0, 35, 27, 42, 28, 182, 0, 54, 154, 0, 17, 42, 28]
abbrev dktX1_silent_0 : List UInt8 := dkwX1_silent_0 ++ dktX1_silent_1
theorem dksX1_silent_0 : cX1_silent.data.toList.drop 0 = dktX1_silent_0 := by decide +kernel
theorem dksX1_silent_1 : cX1_silent.data.toList.drop 23 = dktX1_silent_1 := dk_seg dksX1_silent_0 23 rfl rfl
theorem dX1_silent_0 : decode cX1_silent 0 = .ok (.iconst 0, 1) := dk_3 (dk_at dksX1_silent_0 0 rfl rfl)
theorem dX1_silent_1 : decode cX1_silent 1 = .ok (.istore_n 1, 1) := dk_60 (dk_at dksX1_silent_0 1 rfl rfl)
theorem dX1_silent_2 : decode cX1_silent 2 = .ok (.iconst 0, 1) := dk_3 (dk_at dksX1_silent_0 2 rfl rfl)
theorem dX1_silent_3 : decode cX1_silent 3 = .ok (.istore_n 2, 1) := dk_61 (dk_at dksX1_silent_0 3 rfl rfl)
theorem dX1_silent_4 : decode cX1_silent 4 = .ok (.iload_n 2, 1) := dk_28 (dk_at dksX1_silent_0 4 rfl rfl)
theorem dX1_silent_5 : decode cX1_silent 5 = .ok (.aload_n 0, 1) := dk_42 (dk_at dksX1_silent_0 5 rfl rfl)
theorem dX1_silent_6 : decode cX1_silent 6 = .ok (.getfield 41, 3) := dk_180 0 41 (dk_at dksX1_silent_0 6 rfl rfl)
theorem dX1_silent_9 : decode cX1_silent 9 = .ok (.if_icmp .ge 35, 3) := dk_162 0 35 (dk_at dksX1_silent_0 9 rfl rfl)
theorem dX1_silent_12 : decode cX1_silent 12 = .ok (.iload_n 1, 1) := dk_27 (dk_at dksX1_silent_0 12 rfl rfl)
theorem dX1_silent_13 : decode cX1_silent 13 = .ok (.aload_n 0, 1) := dk_42 (dk_at dksX1_silent_0 13 rfl rfl)
theorem dX1_silent_14 : decode cX1_silent 14 = .ok (.iload_n 2, 1) := dk_28 (dk_at dksX1_silent_0 14 rfl rfl)
theorem dX1_silent_15 : decode cX1_silent 15 = .ok (.invokevirtual 54, 3) := dk_182 0 54 (dk_at dksX1_silent_0 15 rfl rfl)
theorem dX1_silent_18 : decode cX1_silent 18 = .ok (.ifCond .ne 17, 3) := dk_154 0 17 (dk_at dksX1_silent_0 18 rfl rfl)
theorem dX1_silent_21 : decode cX1_silent 21 = .ok (.aload_n 0, 1) := dk_42 (dk_at dksX1_silent_0 21 rfl rfl)
theorem dX1_silent_22 : decode cX1_silent 22 = .ok (.iload_n 2, 1) := dk_28 (dk_at dksX1_silent_0 22 rfl rfl)
theorem dX1_silent_23 : decode cX1_silent 23 = .ok (.invokevirtual 58, 3) := dk_182 0 58 (dk_at dksX1_silent_1 0 rfl rfl)
theorem dX1_silent_26 : decode cX1_silent 26 = .ok (.ifCond .eq 9, 3) := dk_153 0 9 (dk_at dksX1_silent_1 3 rfl rfl)
theorem dX1_silent_29 : decode cX1_silent 29 = .ok (.iconst 1, 1) := dk_4 (dk_at dksX1_silent_1 6 rfl rfl)
theorem dX1_silent_30 : decode cX1_silent 30 = .ok (.iload_n 2, 1) := dk_28 (dk_at dksX1_silent_1 7 rfl rfl)
theorem dX1_silent_31 : decode cX1_silent 31 = .ok (.ishl, 1) := dk_120 (dk_at dksX1_silent_1 8 rfl rfl)
theorem dX1_silent_32 : decode cX1_silent 32 = .ok (.goto 4, 3) := dk_167 0 4 (dk_at dksX1_silent_1 9 rfl rfl)
theorem dX1_silent_35 : decode cX1_silent 35 = .ok (.iconst 0, 1) := dk_3 (dk_at dksX1_silent_1 12 rfl rfl)
theorem dX1_silent_36 : decode cX1_silent 36 = .ok (.ior, 1) := dk_128 (dk_at dksX1_silent_1 13 rfl rfl)
theorem dX1_silent_37 : decode cX1_silent 37 = .ok (.istore_n 1, 1) := dk_60 (dk_at dksX1_silent_1 14 rfl rfl)
theorem dX1_silent_38 : decode cX1_silent 38 = .ok (.iinc 2 1, 3) := dk_132 2 1 (dk_at dksX1_silent_1 15 rfl rfl)
theorem dX1_silent_41 : decode cX1_silent 41 = .ok (.goto (-37), 3) := dk_167 255 219 (dk_at dksX1_silent_1 18 rfl rfl)
theorem dX1_silent_44 : decode cX1_silent 44 = .ok (.iload_n 1, 1) := dk_27 (dk_at dksX1_silent_1 21 rfl rfl)
theorem dX1_silent_45 : decode cX1_silent 45 = .ok (.ireturn, 1) := dk_172 (dk_at dksX1_silent_1 22 rfl rfl)
abbrev cX1_isSold : ByteArray := prog_2_method_3_code
def yX1_isSold : MethodName := ⟨RX1, "isSold", "(I)Z"⟩
def dkwX1_isSold_0 : List UInt8 := [42, 180, 0, 32, 27, 46, 16, 252, 160, 0, 7, 4, 167, 0, 4, 3, 172]
abbrev dktX1_isSold_0 : List UInt8 := dkwX1_isSold_0 ++ []
theorem dksX1_isSold_0 : cX1_isSold.data.toList.drop 0 = dktX1_isSold_0 := by decide +kernel
theorem dX1_isSold_0 : decode cX1_isSold 0 = .ok (.aload_n 0, 1) := dk_42 (dk_at dksX1_isSold_0 0 rfl rfl)
theorem dX1_isSold_1 : decode cX1_isSold 1 = .ok (.getfield 32, 3) := dk_180 0 32 (dk_at dksX1_isSold_0 1 rfl rfl)
theorem dX1_isSold_4 : decode cX1_isSold 4 = .ok (.iload_n 1, 1) := dk_27 (dk_at dksX1_isSold_0 4 rfl rfl)
theorem dX1_isSold_5 : decode cX1_isSold 5 = .ok (.iaload, 1) := dk_46 (dk_at dksX1_isSold_0 5 rfl rfl)
theorem dX1_isSold_6 : decode cX1_isSold 6 = .ok (.bipush (-4), 2) := dk_16 252 (dk_at dksX1_isSold_0 6 rfl rfl)
theorem dX1_isSold_8 : decode cX1_isSold 8 = .ok (.if_icmp .ne 7, 3) := dk_160 0 7 (dk_at dksX1_isSold_0 8 rfl rfl)
theorem dX1_isSold_11 : decode cX1_isSold 11 = .ok (.iconst 1, 1) := dk_4 (dk_at dksX1_isSold_0 11 rfl rfl)
theorem dX1_isSold_12 : decode cX1_isSold 12 = .ok (.goto 4, 3) := dk_167 0 4 (dk_at dksX1_isSold_0 12 rfl rfl)
theorem dX1_isSold_15 : decode cX1_isSold 15 = .ok (.iconst 0, 1) := dk_3 (dk_at dksX1_isSold_0 15 rfl rfl)
theorem dX1_isSold_16 : decode cX1_isSold 16 = .ok (.ireturn, 1) := dk_172 (dk_at dksX1_isSold_0 16 rfl rfl)
abbrev cX1_isSilent : ByteArray := prog_2_method_4_code
def yX1_isSilent : MethodName := ⟨RX1, "isSilent", "(I)Z"⟩
def dkwX1_isSilent_0 : List UInt8 := [42, 180, 0, 29, 27, 46, 153, 0, 12, 42, 180, 0, 26, 27, 46, 154, 0, 7, 4, 167, 0, 4, 3, 172]
abbrev dktX1_isSilent_0 : List UInt8 := dkwX1_isSilent_0 ++ []
theorem dksX1_isSilent_0 : cX1_isSilent.data.toList.drop 0 = dktX1_isSilent_0 := by decide +kernel
theorem dX1_isSilent_0 : decode cX1_isSilent 0 = .ok (.aload_n 0, 1) := dk_42 (dk_at dksX1_isSilent_0 0 rfl rfl)
theorem dX1_isSilent_1 : decode cX1_isSilent 1 = .ok (.getfield 29, 3) := dk_180 0 29 (dk_at dksX1_isSilent_0 1 rfl rfl)
theorem dX1_isSilent_4 : decode cX1_isSilent 4 = .ok (.iload_n 1, 1) := dk_27 (dk_at dksX1_isSilent_0 4 rfl rfl)
theorem dX1_isSilent_5 : decode cX1_isSilent 5 = .ok (.iaload, 1) := dk_46 (dk_at dksX1_isSilent_0 5 rfl rfl)
theorem dX1_isSilent_6 : decode cX1_isSilent 6 = .ok (.ifCond .eq 12, 3) := dk_153 0 12 (dk_at dksX1_isSilent_0 6 rfl rfl)
theorem dX1_isSilent_9 : decode cX1_isSilent 9 = .ok (.aload_n 0, 1) := dk_42 (dk_at dksX1_isSilent_0 9 rfl rfl)
theorem dX1_isSilent_10 : decode cX1_isSilent 10 = .ok (.getfield 26, 3) := dk_180 0 26 (dk_at dksX1_isSilent_0 10 rfl rfl)
theorem dX1_isSilent_13 : decode cX1_isSilent 13 = .ok (.iload_n 1, 1) := dk_27 (dk_at dksX1_isSilent_0 13 rfl rfl)
theorem dX1_isSilent_14 : decode cX1_isSilent 14 = .ok (.iaload, 1) := dk_46 (dk_at dksX1_isSilent_0 14 rfl rfl)
theorem dX1_isSilent_15 : decode cX1_isSilent 15 = .ok (.ifCond .ne 7, 3) := dk_154 0 7 (dk_at dksX1_isSilent_0 15 rfl rfl)
theorem dX1_isSilent_18 : decode cX1_isSilent 18 = .ok (.iconst 1, 1) := dk_4 (dk_at dksX1_isSilent_0 18 rfl rfl)
theorem dX1_isSilent_19 : decode cX1_isSilent 19 = .ok (.goto 4, 3) := dk_167 0 4 (dk_at dksX1_isSilent_0 19 rfl rfl)
theorem dX1_isSilent_22 : decode cX1_isSilent 22 = .ok (.iconst 0, 1) := dk_3 (dk_at dksX1_isSilent_0 22 rfl rfl)
theorem dX1_isSilent_23 : decode cX1_isSilent 23 = .ok (.ireturn, 1) := dk_172 (dk_at dksX1_isSilent_0 23 rfl rfl)
abbrev cX1_returns : ByteArray := prog_2_method_5_code
def yX1_returns : MethodName := ⟨RX1, "returns", "(I)I"⟩
def dkwX1_returns_2 : List UInt8 := [182, 0, 65, 172]
abbrev dktX1_returns_2 : List UInt8 := dkwX1_returns_2 ++ []
def dkwX1_returns_1 : List UInt8 := [180, 0, 18, 27, 46, 50, 42, 180, 0, 29, 27, 46, 42, 180, 0, 9, 42, 180, 0, 32, 27, 46, 46]
abbrev dktX1_returns_1 : List UInt8 := dkwX1_returns_1 ++ dktX1_returns_2
def dkwX1_returns_0 : List UInt8 := [42, 27, 182, 0, 54, 154, 0, 11, 42, 27, 182, 0, 58, 153, 0, 7, 3, 167, 0, 33, 178, 0, 61, 42]
abbrev dktX1_returns_0 : List UInt8 := dkwX1_returns_0 ++ dktX1_returns_1
theorem dksX1_returns_0 : cX1_returns.data.toList.drop 0 = dktX1_returns_0 := by decide +kernel
theorem dksX1_returns_1 : cX1_returns.data.toList.drop 24 = dktX1_returns_1 := dk_seg dksX1_returns_0 24 rfl rfl
theorem dksX1_returns_2 : cX1_returns.data.toList.drop 47 = dktX1_returns_2 := dk_seg dksX1_returns_1 23 rfl rfl
theorem dX1_returns_0 : decode cX1_returns 0 = .ok (.aload_n 0, 1) := dk_42 (dk_at dksX1_returns_0 0 rfl rfl)
theorem dX1_returns_1 : decode cX1_returns 1 = .ok (.iload_n 1, 1) := dk_27 (dk_at dksX1_returns_0 1 rfl rfl)
theorem dX1_returns_2 : decode cX1_returns 2 = .ok (.invokevirtual 54, 3) := dk_182 0 54 (dk_at dksX1_returns_0 2 rfl rfl)
theorem dX1_returns_5 : decode cX1_returns 5 = .ok (.ifCond .ne 11, 3) := dk_154 0 11 (dk_at dksX1_returns_0 5 rfl rfl)
theorem dX1_returns_8 : decode cX1_returns 8 = .ok (.aload_n 0, 1) := dk_42 (dk_at dksX1_returns_0 8 rfl rfl)
theorem dX1_returns_9 : decode cX1_returns 9 = .ok (.iload_n 1, 1) := dk_27 (dk_at dksX1_returns_0 9 rfl rfl)
theorem dX1_returns_10 : decode cX1_returns 10 = .ok (.invokevirtual 58, 3) := dk_182 0 58 (dk_at dksX1_returns_0 10 rfl rfl)
theorem dX1_returns_13 : decode cX1_returns 13 = .ok (.ifCond .eq 7, 3) := dk_153 0 7 (dk_at dksX1_returns_0 13 rfl rfl)
theorem dX1_returns_16 : decode cX1_returns 16 = .ok (.iconst 0, 1) := dk_3 (dk_at dksX1_returns_0 16 rfl rfl)
theorem dX1_returns_17 : decode cX1_returns 17 = .ok (.goto 33, 3) := dk_167 0 33 (dk_at dksX1_returns_0 17 rfl rfl)
theorem dX1_returns_20 : decode cX1_returns 20 = .ok (.getstatic 61, 3) := dk_178 0 61 (dk_at dksX1_returns_0 20 rfl rfl)
theorem dX1_returns_23 : decode cX1_returns 23 = .ok (.aload_n 0, 1) := dk_42 (dk_at dksX1_returns_0 23 rfl rfl)
theorem dX1_returns_24 : decode cX1_returns 24 = .ok (.getfield 18, 3) := dk_180 0 18 (dk_at dksX1_returns_1 0 rfl rfl)
theorem dX1_returns_27 : decode cX1_returns 27 = .ok (.iload_n 1, 1) := dk_27 (dk_at dksX1_returns_1 3 rfl rfl)
theorem dX1_returns_28 : decode cX1_returns 28 = .ok (.iaload, 1) := dk_46 (dk_at dksX1_returns_1 4 rfl rfl)
theorem dX1_returns_29 : decode cX1_returns 29 = .ok (.aaload, 1) := dk_50 (dk_at dksX1_returns_1 5 rfl rfl)
theorem dX1_returns_30 : decode cX1_returns 30 = .ok (.aload_n 0, 1) := dk_42 (dk_at dksX1_returns_1 6 rfl rfl)
theorem dX1_returns_31 : decode cX1_returns 31 = .ok (.getfield 29, 3) := dk_180 0 29 (dk_at dksX1_returns_1 7 rfl rfl)
theorem dX1_returns_34 : decode cX1_returns 34 = .ok (.iload_n 1, 1) := dk_27 (dk_at dksX1_returns_1 10 rfl rfl)
theorem dX1_returns_35 : decode cX1_returns 35 = .ok (.iaload, 1) := dk_46 (dk_at dksX1_returns_1 11 rfl rfl)
theorem dX1_returns_36 : decode cX1_returns 36 = .ok (.aload_n 0, 1) := dk_42 (dk_at dksX1_returns_1 12 rfl rfl)
theorem dX1_returns_37 : decode cX1_returns 37 = .ok (.getfield 9, 3) := dk_180 0 9 (dk_at dksX1_returns_1 13 rfl rfl)
theorem dX1_returns_40 : decode cX1_returns 40 = .ok (.aload_n 0, 1) := dk_42 (dk_at dksX1_returns_1 16 rfl rfl)
theorem dX1_returns_41 : decode cX1_returns 41 = .ok (.getfield 32, 3) := dk_180 0 32 (dk_at dksX1_returns_1 17 rfl rfl)
theorem dX1_returns_44 : decode cX1_returns 44 = .ok (.iload_n 1, 1) := dk_27 (dk_at dksX1_returns_1 20 rfl rfl)
theorem dX1_returns_45 : decode cX1_returns 45 = .ok (.iaload, 1) := dk_46 (dk_at dksX1_returns_1 21 rfl rfl)
theorem dX1_returns_46 : decode cX1_returns 46 = .ok (.iaload, 1) := dk_46 (dk_at dksX1_returns_1 22 rfl rfl)
theorem dX1_returns_47 : decode cX1_returns 47 = .ok (.invokevirtual 65, 3) := dk_182 0 65 (dk_at dksX1_returns_2 0 rfl rfl)
theorem dX1_returns_50 : decode cX1_returns 50 = .ok (.ireturn, 1) := dk_172 (dk_at dksX1_returns_2 3 rfl rfl)
abbrev cX1_period : ByteArray := prog_2_method_6_code
def yX1_period : MethodName := ⟨RX1, "period", "(I)I"⟩
def dkwX1_period_1 : List UInt8 := [180, 0, 26, 27, 46, 96, 172]
abbrev dktX1_period_1 : List UInt8 := dkwX1_period_1 ++ []
def dkwX1_period_0 : List UInt8 := [42, 27, 182, 0, 54, 153, 0, 7, 3, 167, 0, 21, 42, 180, 0, 9, 42, 180, 0, 32, 27, 46, 46, 42]
abbrev dktX1_period_0 : List UInt8 := dkwX1_period_0 ++ dktX1_period_1
theorem dksX1_period_0 : cX1_period.data.toList.drop 0 = dktX1_period_0 := by decide +kernel
theorem dksX1_period_1 : cX1_period.data.toList.drop 24 = dktX1_period_1 := dk_seg dksX1_period_0 24 rfl rfl
theorem dX1_period_0 : decode cX1_period 0 = .ok (.aload_n 0, 1) := dk_42 (dk_at dksX1_period_0 0 rfl rfl)
theorem dX1_period_1 : decode cX1_period 1 = .ok (.iload_n 1, 1) := dk_27 (dk_at dksX1_period_0 1 rfl rfl)
theorem dX1_period_2 : decode cX1_period 2 = .ok (.invokevirtual 54, 3) := dk_182 0 54 (dk_at dksX1_period_0 2 rfl rfl)
theorem dX1_period_5 : decode cX1_period 5 = .ok (.ifCond .eq 7, 3) := dk_153 0 7 (dk_at dksX1_period_0 5 rfl rfl)
theorem dX1_period_8 : decode cX1_period 8 = .ok (.iconst 0, 1) := dk_3 (dk_at dksX1_period_0 8 rfl rfl)
theorem dX1_period_9 : decode cX1_period 9 = .ok (.goto 21, 3) := dk_167 0 21 (dk_at dksX1_period_0 9 rfl rfl)
theorem dX1_period_12 : decode cX1_period 12 = .ok (.aload_n 0, 1) := dk_42 (dk_at dksX1_period_0 12 rfl rfl)
theorem dX1_period_13 : decode cX1_period 13 = .ok (.getfield 9, 3) := dk_180 0 9 (dk_at dksX1_period_0 13 rfl rfl)
theorem dX1_period_16 : decode cX1_period 16 = .ok (.aload_n 0, 1) := dk_42 (dk_at dksX1_period_0 16 rfl rfl)
theorem dX1_period_17 : decode cX1_period 17 = .ok (.getfield 32, 3) := dk_180 0 32 (dk_at dksX1_period_0 17 rfl rfl)
theorem dX1_period_20 : decode cX1_period 20 = .ok (.iload_n 1, 1) := dk_27 (dk_at dksX1_period_0 20 rfl rfl)
theorem dX1_period_21 : decode cX1_period 21 = .ok (.iaload, 1) := dk_46 (dk_at dksX1_period_0 21 rfl rfl)
theorem dX1_period_22 : decode cX1_period 22 = .ok (.iaload, 1) := dk_46 (dk_at dksX1_period_0 22 rfl rfl)
theorem dX1_period_23 : decode cX1_period 23 = .ok (.aload_n 0, 1) := dk_42 (dk_at dksX1_period_0 23 rfl rfl)
theorem dX1_period_24 : decode cX1_period 24 = .ok (.getfield 26, 3) := dk_180 0 26 (dk_at dksX1_period_1 0 rfl rfl)
theorem dX1_period_27 : decode cX1_period 27 = .ok (.iload_n 1, 1) := dk_27 (dk_at dksX1_period_1 3 rfl rfl)
theorem dX1_period_28 : decode cX1_period 28 = .ok (.iaload, 1) := dk_46 (dk_at dksX1_period_1 4 rfl rfl)
theorem dX1_period_29 : decode cX1_period 29 = .ok (.iadd, 1) := dk_96 (dk_at dksX1_period_1 5 rfl rfl)
theorem dX1_period_30 : decode cX1_period 30 = .ok (.ireturn, 1) := dk_172 (dk_at dksX1_period_1 6 rfl rfl)
abbrev cX1_week : ByteArray := prog_2_method_12_code
def yX1_week : MethodName := ⟨RX1, "week", "()V"⟩
def dkwX1_week_5 : List UInt8 := [167, 255, 224, 42, 89, 180, 0, 48, 4, 96, 181, 0, 48, 177]
abbrev dktX1_week_5 : List UInt8 := dkwX1_week_5 ++ []
def dkwX1_week_4 : List UInt8 := [182, 0, 54, 154, 0, 16, 42, 27, 182, 0, 58, 154, 0, 8, 42, 27, 182, 0, 107, 132, 1, 1]
abbrev dktX1_week_4 : List UInt8 := dkwX1_week_4 ++ dktX1_week_5
def dkwX1_week_3 : List UInt8 := [132, 3, 1, 167, 255, 198, 132, 1, 1, 167, 255, 179, 3, 60, 27, 42, 180, 0, 41, 162, 0, 30, 42, 27]
abbrev dktX1_week_3 : List UInt8 := dkwX1_week_3 ++ dktX1_week_4
def dkwX1_week_2 : List UInt8 := [29, 46, 6, 159, 0, 16, 42, 180, 0, 26, 29, 46, 158, 0, 7, 4, 167, 0, 4, 3, 100, 79]
abbrev dktX1_week_2 : List UInt8 := dkwX1_week_2 ++ dktX1_week_3
def dkwX1_week_1 : List UInt8 := [153, 0, 52, 42, 180, 0, 26, 29, 92, 46, 42, 180, 0, 32, 29, 46, 27, 160, 0, 26, 42, 180, 0, 18]
abbrev dktX1_week_1 : List UInt8 := dkwX1_week_1 ++ dktX1_week_2
def dkwX1_week_0 : List UInt8 := [3, 60, 27, 7, 162, 0, 78, 42, 27, 182, 0, 104, 61, 3, 62, 29, 42, 180, 0, 41, 162, 0, 56, 28]
abbrev dktX1_week_0 : List UInt8 := dkwX1_week_0 ++ dktX1_week_1
theorem dksX1_week_0 : cX1_week.data.toList.drop 0 = dktX1_week_0 := by decide +kernel
theorem dksX1_week_1 : cX1_week.data.toList.drop 24 = dktX1_week_1 := dk_seg dksX1_week_0 24 rfl rfl
theorem dksX1_week_2 : cX1_week.data.toList.drop 48 = dktX1_week_2 := dk_seg dksX1_week_1 24 rfl rfl
theorem dksX1_week_3 : cX1_week.data.toList.drop 70 = dktX1_week_3 := dk_seg dksX1_week_2 22 rfl rfl
theorem dksX1_week_4 : cX1_week.data.toList.drop 94 = dktX1_week_4 := dk_seg dksX1_week_3 24 rfl rfl
theorem dksX1_week_5 : cX1_week.data.toList.drop 116 = dktX1_week_5 := dk_seg dksX1_week_4 22 rfl rfl
theorem dX1_week_0 : decode cX1_week 0 = .ok (.iconst 0, 1) := dk_3 (dk_at dksX1_week_0 0 rfl rfl)
theorem dX1_week_1 : decode cX1_week 1 = .ok (.istore_n 1, 1) := dk_60 (dk_at dksX1_week_0 1 rfl rfl)
theorem dX1_week_2 : decode cX1_week 2 = .ok (.iload_n 1, 1) := dk_27 (dk_at dksX1_week_0 2 rfl rfl)
theorem dX1_week_3 : decode cX1_week 3 = .ok (.iconst 4, 1) := dk_7 (dk_at dksX1_week_0 3 rfl rfl)
theorem dX1_week_4 : decode cX1_week 4 = .ok (.if_icmp .ge 78, 3) := dk_162 0 78 (dk_at dksX1_week_0 4 rfl rfl)
theorem dX1_week_7 : decode cX1_week 7 = .ok (.aload_n 0, 1) := dk_42 (dk_at dksX1_week_0 7 rfl rfl)
theorem dX1_week_8 : decode cX1_week 8 = .ok (.iload_n 1, 1) := dk_27 (dk_at dksX1_week_0 8 rfl rfl)
theorem dX1_week_9 : decode cX1_week 9 = .ok (.invokevirtual 104, 3) := dk_182 0 104 (dk_at dksX1_week_0 9 rfl rfl)
theorem dX1_week_12 : decode cX1_week 12 = .ok (.istore_n 2, 1) := dk_61 (dk_at dksX1_week_0 12 rfl rfl)
theorem dX1_week_13 : decode cX1_week 13 = .ok (.iconst 0, 1) := dk_3 (dk_at dksX1_week_0 13 rfl rfl)
theorem dX1_week_14 : decode cX1_week 14 = .ok (.istore_n 3, 1) := dk_62 (dk_at dksX1_week_0 14 rfl rfl)
theorem dX1_week_15 : decode cX1_week 15 = .ok (.iload_n 3, 1) := dk_29 (dk_at dksX1_week_0 15 rfl rfl)
theorem dX1_week_16 : decode cX1_week 16 = .ok (.aload_n 0, 1) := dk_42 (dk_at dksX1_week_0 16 rfl rfl)
theorem dX1_week_17 : decode cX1_week 17 = .ok (.getfield 41, 3) := dk_180 0 41 (dk_at dksX1_week_0 17 rfl rfl)
theorem dX1_week_20 : decode cX1_week 20 = .ok (.if_icmp .ge 56, 3) := dk_162 0 56 (dk_at dksX1_week_0 20 rfl rfl)
theorem dX1_week_23 : decode cX1_week 23 = .ok (.iload_n 2, 1) := dk_28 (dk_at dksX1_week_0 23 rfl rfl)
theorem dX1_week_24 : decode cX1_week 24 = .ok (.ifCond .eq 52, 3) := dk_153 0 52 (dk_at dksX1_week_1 0 rfl rfl)
theorem dX1_week_27 : decode cX1_week 27 = .ok (.aload_n 0, 1) := dk_42 (dk_at dksX1_week_1 3 rfl rfl)
theorem dX1_week_28 : decode cX1_week 28 = .ok (.getfield 26, 3) := dk_180 0 26 (dk_at dksX1_week_1 4 rfl rfl)
theorem dX1_week_31 : decode cX1_week 31 = .ok (.iload_n 3, 1) := dk_29 (dk_at dksX1_week_1 7 rfl rfl)
theorem dX1_week_32 : decode cX1_week 32 = .ok (.dup2, 1) := dk_92 (dk_at dksX1_week_1 8 rfl rfl)
theorem dX1_week_33 : decode cX1_week 33 = .ok (.iaload, 1) := dk_46 (dk_at dksX1_week_1 9 rfl rfl)
theorem dX1_week_34 : decode cX1_week 34 = .ok (.aload_n 0, 1) := dk_42 (dk_at dksX1_week_1 10 rfl rfl)
theorem dX1_week_35 : decode cX1_week 35 = .ok (.getfield 32, 3) := dk_180 0 32 (dk_at dksX1_week_1 11 rfl rfl)
theorem dX1_week_38 : decode cX1_week 38 = .ok (.iload_n 3, 1) := dk_29 (dk_at dksX1_week_1 14 rfl rfl)
theorem dX1_week_39 : decode cX1_week 39 = .ok (.iaload, 1) := dk_46 (dk_at dksX1_week_1 15 rfl rfl)
theorem dX1_week_40 : decode cX1_week 40 = .ok (.iload_n 1, 1) := dk_27 (dk_at dksX1_week_1 16 rfl rfl)
theorem dX1_week_41 : decode cX1_week 41 = .ok (.if_icmp .ne 26, 3) := dk_160 0 26 (dk_at dksX1_week_1 17 rfl rfl)
theorem dX1_week_44 : decode cX1_week 44 = .ok (.aload_n 0, 1) := dk_42 (dk_at dksX1_week_1 20 rfl rfl)
theorem dX1_week_45 : decode cX1_week 45 = .ok (.getfield 18, 3) := dk_180 0 18 (dk_at dksX1_week_1 21 rfl rfl)
theorem dX1_week_48 : decode cX1_week 48 = .ok (.iload_n 3, 1) := dk_29 (dk_at dksX1_week_2 0 rfl rfl)
theorem dX1_week_49 : decode cX1_week 49 = .ok (.iaload, 1) := dk_46 (dk_at dksX1_week_2 1 rfl rfl)
theorem dX1_week_50 : decode cX1_week 50 = .ok (.iconst 3, 1) := dk_6 (dk_at dksX1_week_2 2 rfl rfl)
theorem dX1_week_51 : decode cX1_week 51 = .ok (.if_icmp .eq 16, 3) := dk_159 0 16 (dk_at dksX1_week_2 3 rfl rfl)
theorem dX1_week_54 : decode cX1_week 54 = .ok (.aload_n 0, 1) := dk_42 (dk_at dksX1_week_2 6 rfl rfl)
theorem dX1_week_55 : decode cX1_week 55 = .ok (.getfield 26, 3) := dk_180 0 26 (dk_at dksX1_week_2 7 rfl rfl)
theorem dX1_week_58 : decode cX1_week 58 = .ok (.iload_n 3, 1) := dk_29 (dk_at dksX1_week_2 10 rfl rfl)
theorem dX1_week_59 : decode cX1_week 59 = .ok (.iaload, 1) := dk_46 (dk_at dksX1_week_2 11 rfl rfl)
theorem dX1_week_60 : decode cX1_week 60 = .ok (.ifCond .le 7, 3) := dk_158 0 7 (dk_at dksX1_week_2 12 rfl rfl)
theorem dX1_week_63 : decode cX1_week 63 = .ok (.iconst 1, 1) := dk_4 (dk_at dksX1_week_2 15 rfl rfl)
theorem dX1_week_64 : decode cX1_week 64 = .ok (.goto 4, 3) := dk_167 0 4 (dk_at dksX1_week_2 16 rfl rfl)
theorem dX1_week_67 : decode cX1_week 67 = .ok (.iconst 0, 1) := dk_3 (dk_at dksX1_week_2 19 rfl rfl)
theorem dX1_week_68 : decode cX1_week 68 = .ok (.isub, 1) := dk_100 (dk_at dksX1_week_2 20 rfl rfl)
theorem dX1_week_69 : decode cX1_week 69 = .ok (.iastore, 1) := dk_79 (dk_at dksX1_week_2 21 rfl rfl)
theorem dX1_week_70 : decode cX1_week 70 = .ok (.iinc 3 1, 3) := dk_132 3 1 (dk_at dksX1_week_3 0 rfl rfl)
theorem dX1_week_73 : decode cX1_week 73 = .ok (.goto (-58), 3) := dk_167 255 198 (dk_at dksX1_week_3 3 rfl rfl)
theorem dX1_week_76 : decode cX1_week 76 = .ok (.iinc 1 1, 3) := dk_132 1 1 (dk_at dksX1_week_3 6 rfl rfl)
theorem dX1_week_79 : decode cX1_week 79 = .ok (.goto (-77), 3) := dk_167 255 179 (dk_at dksX1_week_3 9 rfl rfl)
theorem dX1_week_82 : decode cX1_week 82 = .ok (.iconst 0, 1) := dk_3 (dk_at dksX1_week_3 12 rfl rfl)
theorem dX1_week_83 : decode cX1_week 83 = .ok (.istore_n 1, 1) := dk_60 (dk_at dksX1_week_3 13 rfl rfl)
theorem dX1_week_84 : decode cX1_week 84 = .ok (.iload_n 1, 1) := dk_27 (dk_at dksX1_week_3 14 rfl rfl)
theorem dX1_week_85 : decode cX1_week 85 = .ok (.aload_n 0, 1) := dk_42 (dk_at dksX1_week_3 15 rfl rfl)
theorem dX1_week_86 : decode cX1_week 86 = .ok (.getfield 41, 3) := dk_180 0 41 (dk_at dksX1_week_3 16 rfl rfl)
theorem dX1_week_89 : decode cX1_week 89 = .ok (.if_icmp .ge 30, 3) := dk_162 0 30 (dk_at dksX1_week_3 19 rfl rfl)
theorem dX1_week_92 : decode cX1_week 92 = .ok (.aload_n 0, 1) := dk_42 (dk_at dksX1_week_3 22 rfl rfl)
theorem dX1_week_93 : decode cX1_week 93 = .ok (.iload_n 1, 1) := dk_27 (dk_at dksX1_week_3 23 rfl rfl)
theorem dX1_week_94 : decode cX1_week 94 = .ok (.invokevirtual 54, 3) := dk_182 0 54 (dk_at dksX1_week_4 0 rfl rfl)
theorem dX1_week_97 : decode cX1_week 97 = .ok (.ifCond .ne 16, 3) := dk_154 0 16 (dk_at dksX1_week_4 3 rfl rfl)
theorem dX1_week_100 : decode cX1_week 100 = .ok (.aload_n 0, 1) := dk_42 (dk_at dksX1_week_4 6 rfl rfl)
theorem dX1_week_101 : decode cX1_week 101 = .ok (.iload_n 1, 1) := dk_27 (dk_at dksX1_week_4 7 rfl rfl)
theorem dX1_week_102 : decode cX1_week 102 = .ok (.invokevirtual 58, 3) := dk_182 0 58 (dk_at dksX1_week_4 8 rfl rfl)
theorem dX1_week_105 : decode cX1_week 105 = .ok (.ifCond .ne 8, 3) := dk_154 0 8 (dk_at dksX1_week_4 11 rfl rfl)
theorem dX1_week_108 : decode cX1_week 108 = .ok (.aload_n 0, 1) := dk_42 (dk_at dksX1_week_4 14 rfl rfl)
theorem dX1_week_109 : decode cX1_week 109 = .ok (.iload_n 1, 1) := dk_27 (dk_at dksX1_week_4 15 rfl rfl)
theorem dX1_week_110 : decode cX1_week 110 = .ok (.invokevirtual 107, 3) := dk_182 0 107 (dk_at dksX1_week_4 16 rfl rfl)
theorem dX1_week_113 : decode cX1_week 113 = .ok (.iinc 1 1, 3) := dk_132 1 1 (dk_at dksX1_week_4 19 rfl rfl)
theorem dX1_week_116 : decode cX1_week 116 = .ok (.goto (-32), 3) := dk_167 255 224 (dk_at dksX1_week_5 0 rfl rfl)
theorem dX1_week_119 : decode cX1_week 119 = .ok (.aload_n 0, 1) := dk_42 (dk_at dksX1_week_5 3 rfl rfl)
theorem dX1_week_120 : decode cX1_week 120 = .ok (.dup, 1) := dk_89 (dk_at dksX1_week_5 4 rfl rfl)
theorem dX1_week_121 : decode cX1_week 121 = .ok (.getfield 48, 3) := dk_180 0 48 (dk_at dksX1_week_5 5 rfl rfl)
theorem dX1_week_124 : decode cX1_week 124 = .ok (.iconst 1, 1) := dk_4 (dk_at dksX1_week_5 8 rfl rfl)
theorem dX1_week_125 : decode cX1_week 125 = .ok (.iadd, 1) := dk_96 (dk_at dksX1_week_5 9 rfl rfl)
theorem dX1_week_126 : decode cX1_week 126 = .ok (.putfield 48, 3) := dk_181 0 48 (dk_at dksX1_week_5 10 rfl rfl)
theorem dX1_week_129 : decode cX1_week 129 = .ok (.return_, 1) := dk_177 (dk_at dksX1_week_5 13 rfl rfl)
abbrev cX1_isSpoiled : ByteArray := prog_2_method_10_code
def yX1_isSpoiled : MethodName := ⟨RX1, "isSpoiled", "(I)Z"⟩
def dkwX1_isSpoiled_2 : List UInt8 := [154, 0, 7, 4, 167, 0, 4, 3, 61, 132, 3, 1, 167, 255, 201, 28, 172]
abbrev dktX1_isSpoiled_2 : List UInt8 := dkwX1_isSpoiled_2 ++ []
def dkwX1_isSpoiled_1 : List UInt8 := [160, 0, 31, 178, 0, 61, 42, 180, 0, 18, 29, 46, 50, 182, 0, 81, 153, 0, 15, 42, 29, 182, 0, 58]
abbrev dktX1_isSpoiled_1 : List UInt8 := dkwX1_isSpoiled_1 ++ dktX1_isSpoiled_2
def dkwX1_isSpoiled_0 : List UInt8 := [3, 61, 3, 62, 29, 42, 180, 0, 41, 162, 0, 53, 28, 154, 0, 37, 42, 180, 0, 32, 29, 46, 27]
abbrev dktX1_isSpoiled_0 : List UInt8 := dkwX1_isSpoiled_0 ++ dktX1_isSpoiled_1
theorem dksX1_isSpoiled_0 : cX1_isSpoiled.data.toList.drop 0 = dktX1_isSpoiled_0 := by decide +kernel
theorem dksX1_isSpoiled_1 : cX1_isSpoiled.data.toList.drop 23 = dktX1_isSpoiled_1 := dk_seg dksX1_isSpoiled_0 23 rfl rfl
theorem dksX1_isSpoiled_2 : cX1_isSpoiled.data.toList.drop 47 = dktX1_isSpoiled_2 := dk_seg dksX1_isSpoiled_1 24 rfl rfl
theorem dX1_isSpoiled_0 : decode cX1_isSpoiled 0 = .ok (.iconst 0, 1) := dk_3 (dk_at dksX1_isSpoiled_0 0 rfl rfl)
theorem dX1_isSpoiled_1 : decode cX1_isSpoiled 1 = .ok (.istore_n 2, 1) := dk_61 (dk_at dksX1_isSpoiled_0 1 rfl rfl)
theorem dX1_isSpoiled_2 : decode cX1_isSpoiled 2 = .ok (.iconst 0, 1) := dk_3 (dk_at dksX1_isSpoiled_0 2 rfl rfl)
theorem dX1_isSpoiled_3 : decode cX1_isSpoiled 3 = .ok (.istore_n 3, 1) := dk_62 (dk_at dksX1_isSpoiled_0 3 rfl rfl)
theorem dX1_isSpoiled_4 : decode cX1_isSpoiled 4 = .ok (.iload_n 3, 1) := dk_29 (dk_at dksX1_isSpoiled_0 4 rfl rfl)
theorem dX1_isSpoiled_5 : decode cX1_isSpoiled 5 = .ok (.aload_n 0, 1) := dk_42 (dk_at dksX1_isSpoiled_0 5 rfl rfl)
theorem dX1_isSpoiled_6 : decode cX1_isSpoiled 6 = .ok (.getfield 41, 3) := dk_180 0 41 (dk_at dksX1_isSpoiled_0 6 rfl rfl)
theorem dX1_isSpoiled_9 : decode cX1_isSpoiled 9 = .ok (.if_icmp .ge 53, 3) := dk_162 0 53 (dk_at dksX1_isSpoiled_0 9 rfl rfl)
theorem dX1_isSpoiled_12 : decode cX1_isSpoiled 12 = .ok (.iload_n 2, 1) := dk_28 (dk_at dksX1_isSpoiled_0 12 rfl rfl)
theorem dX1_isSpoiled_13 : decode cX1_isSpoiled 13 = .ok (.ifCond .ne 37, 3) := dk_154 0 37 (dk_at dksX1_isSpoiled_0 13 rfl rfl)
theorem dX1_isSpoiled_16 : decode cX1_isSpoiled 16 = .ok (.aload_n 0, 1) := dk_42 (dk_at dksX1_isSpoiled_0 16 rfl rfl)
theorem dX1_isSpoiled_17 : decode cX1_isSpoiled 17 = .ok (.getfield 32, 3) := dk_180 0 32 (dk_at dksX1_isSpoiled_0 17 rfl rfl)
theorem dX1_isSpoiled_20 : decode cX1_isSpoiled 20 = .ok (.iload_n 3, 1) := dk_29 (dk_at dksX1_isSpoiled_0 20 rfl rfl)
theorem dX1_isSpoiled_21 : decode cX1_isSpoiled 21 = .ok (.iaload, 1) := dk_46 (dk_at dksX1_isSpoiled_0 21 rfl rfl)
theorem dX1_isSpoiled_22 : decode cX1_isSpoiled 22 = .ok (.iload_n 1, 1) := dk_27 (dk_at dksX1_isSpoiled_0 22 rfl rfl)
theorem dX1_isSpoiled_23 : decode cX1_isSpoiled 23 = .ok (.if_icmp .ne 31, 3) := dk_160 0 31 (dk_at dksX1_isSpoiled_1 0 rfl rfl)
theorem dX1_isSpoiled_26 : decode cX1_isSpoiled 26 = .ok (.getstatic 61, 3) := dk_178 0 61 (dk_at dksX1_isSpoiled_1 3 rfl rfl)
theorem dX1_isSpoiled_29 : decode cX1_isSpoiled 29 = .ok (.aload_n 0, 1) := dk_42 (dk_at dksX1_isSpoiled_1 6 rfl rfl)
theorem dX1_isSpoiled_30 : decode cX1_isSpoiled 30 = .ok (.getfield 18, 3) := dk_180 0 18 (dk_at dksX1_isSpoiled_1 7 rfl rfl)
theorem dX1_isSpoiled_33 : decode cX1_isSpoiled 33 = .ok (.iload_n 3, 1) := dk_29 (dk_at dksX1_isSpoiled_1 10 rfl rfl)
theorem dX1_isSpoiled_34 : decode cX1_isSpoiled 34 = .ok (.iaload, 1) := dk_46 (dk_at dksX1_isSpoiled_1 11 rfl rfl)
theorem dX1_isSpoiled_35 : decode cX1_isSpoiled 35 = .ok (.aaload, 1) := dk_50 (dk_at dksX1_isSpoiled_1 12 rfl rfl)
theorem dX1_isSpoiled_36 : decode cX1_isSpoiled 36 = .ok (.invokevirtual 81, 3) := dk_182 0 81 (dk_at dksX1_isSpoiled_1 13 rfl rfl)
theorem dX1_isSpoiled_39 : decode cX1_isSpoiled 39 = .ok (.ifCond .eq 15, 3) := dk_153 0 15 (dk_at dksX1_isSpoiled_1 16 rfl rfl)
theorem dX1_isSpoiled_42 : decode cX1_isSpoiled 42 = .ok (.aload_n 0, 1) := dk_42 (dk_at dksX1_isSpoiled_1 19 rfl rfl)
theorem dX1_isSpoiled_43 : decode cX1_isSpoiled 43 = .ok (.iload_n 3, 1) := dk_29 (dk_at dksX1_isSpoiled_1 20 rfl rfl)
theorem dX1_isSpoiled_44 : decode cX1_isSpoiled 44 = .ok (.invokevirtual 58, 3) := dk_182 0 58 (dk_at dksX1_isSpoiled_1 21 rfl rfl)
theorem dX1_isSpoiled_47 : decode cX1_isSpoiled 47 = .ok (.ifCond .ne 7, 3) := dk_154 0 7 (dk_at dksX1_isSpoiled_2 0 rfl rfl)
theorem dX1_isSpoiled_50 : decode cX1_isSpoiled 50 = .ok (.iconst 1, 1) := dk_4 (dk_at dksX1_isSpoiled_2 3 rfl rfl)
theorem dX1_isSpoiled_51 : decode cX1_isSpoiled 51 = .ok (.goto 4, 3) := dk_167 0 4 (dk_at dksX1_isSpoiled_2 4 rfl rfl)
theorem dX1_isSpoiled_54 : decode cX1_isSpoiled 54 = .ok (.iconst 0, 1) := dk_3 (dk_at dksX1_isSpoiled_2 7 rfl rfl)
theorem dX1_isSpoiled_55 : decode cX1_isSpoiled 55 = .ok (.istore_n 2, 1) := dk_61 (dk_at dksX1_isSpoiled_2 8 rfl rfl)
theorem dX1_isSpoiled_56 : decode cX1_isSpoiled 56 = .ok (.iinc 3 1, 3) := dk_132 3 1 (dk_at dksX1_isSpoiled_2 9 rfl rfl)
theorem dX1_isSpoiled_59 : decode cX1_isSpoiled 59 = .ok (.goto (-55), 3) := dk_167 255 201 (dk_at dksX1_isSpoiled_2 12 rfl rfl)
theorem dX1_isSpoiled_62 : decode cX1_isSpoiled 62 = .ok (.iload_n 2, 1) := dk_28 (dk_at dksX1_isSpoiled_2 15 rfl rfl)
theorem dX1_isSpoiled_63 : decode cX1_isSpoiled 63 = .ok (.ireturn, 1) := dk_172 (dk_at dksX1_isSpoiled_2 16 rfl rfl)
abbrev cX1_grows : ByteArray := prog_2_method_11_code
def yX1_grows : MethodName := ⟨RX1, "grows", "(I)V"⟩
def dkwX1_grows_4 : List UInt8 := [177]
abbrev dktX1_grows_4 : List UInt8 := dkwX1_grows_4 ++ []
def dkwX1_grows_3 : List UInt8 := [178, 0, 61, 42, 180, 0, 18, 27, 46, 50, 28, 182, 0, 93, 96, 4, 100, 184, 0, 96, 184, 0, 101, 79]
abbrev dktX1_grows_3 : List UInt8 := dkwX1_grows_3 ++ dktX1_grows_4
def dkwX1_grows_2 : List UInt8 := [96, 61, 132, 3, 1, 167, 255, 208, 42, 180, 0, 29, 27, 3, 16, 99, 42, 180, 0, 29, 27, 46]
abbrev dktX1_grows_2 : List UInt8 := dkwX1_grows_2 ++ dktX1_grows_3
def dkwX1_grows_1 : List UInt8 := [18, 85, 42, 180, 0, 15, 42, 180, 0, 32, 27, 46, 46, 182, 0, 87, 160, 0, 7, 4, 167, 0, 4, 3]
abbrev dktX1_grows_1 : List UInt8 := dkwX1_grows_1 ++ dktX1_grows_2
def dkwX1_grows_0 : List UInt8 := [3, 61, 3, 62, 29, 42, 180, 0, 26, 27, 46, 162, 0, 44, 28, 42, 180, 0, 23, 27, 50, 29, 51]
abbrev dktX1_grows_0 : List UInt8 := dkwX1_grows_0 ++ dktX1_grows_1
theorem dksX1_grows_0 : cX1_grows.data.toList.drop 0 = dktX1_grows_0 := by decide +kernel
theorem dksX1_grows_1 : cX1_grows.data.toList.drop 23 = dktX1_grows_1 := dk_seg dksX1_grows_0 23 rfl rfl
theorem dksX1_grows_2 : cX1_grows.data.toList.drop 47 = dktX1_grows_2 := dk_seg dksX1_grows_1 24 rfl rfl
theorem dksX1_grows_3 : cX1_grows.data.toList.drop 69 = dktX1_grows_3 := dk_seg dksX1_grows_2 22 rfl rfl
theorem dksX1_grows_4 : cX1_grows.data.toList.drop 93 = dktX1_grows_4 := dk_seg dksX1_grows_3 24 rfl rfl
theorem dX1_grows_0 : decode cX1_grows 0 = .ok (.iconst 0, 1) := dk_3 (dk_at dksX1_grows_0 0 rfl rfl)
theorem dX1_grows_1 : decode cX1_grows 1 = .ok (.istore_n 2, 1) := dk_61 (dk_at dksX1_grows_0 1 rfl rfl)
theorem dX1_grows_2 : decode cX1_grows 2 = .ok (.iconst 0, 1) := dk_3 (dk_at dksX1_grows_0 2 rfl rfl)
theorem dX1_grows_3 : decode cX1_grows 3 = .ok (.istore_n 3, 1) := dk_62 (dk_at dksX1_grows_0 3 rfl rfl)
theorem dX1_grows_4 : decode cX1_grows 4 = .ok (.iload_n 3, 1) := dk_29 (dk_at dksX1_grows_0 4 rfl rfl)
theorem dX1_grows_5 : decode cX1_grows 5 = .ok (.aload_n 0, 1) := dk_42 (dk_at dksX1_grows_0 5 rfl rfl)
theorem dX1_grows_6 : decode cX1_grows 6 = .ok (.getfield 26, 3) := dk_180 0 26 (dk_at dksX1_grows_0 6 rfl rfl)
theorem dX1_grows_9 : decode cX1_grows 9 = .ok (.iload_n 1, 1) := dk_27 (dk_at dksX1_grows_0 9 rfl rfl)
theorem dX1_grows_10 : decode cX1_grows 10 = .ok (.iaload, 1) := dk_46 (dk_at dksX1_grows_0 10 rfl rfl)
theorem dX1_grows_11 : decode cX1_grows 11 = .ok (.if_icmp .ge 44, 3) := dk_162 0 44 (dk_at dksX1_grows_0 11 rfl rfl)
theorem dX1_grows_14 : decode cX1_grows 14 = .ok (.iload_n 2, 1) := dk_28 (dk_at dksX1_grows_0 14 rfl rfl)
theorem dX1_grows_15 : decode cX1_grows 15 = .ok (.aload_n 0, 1) := dk_42 (dk_at dksX1_grows_0 15 rfl rfl)
theorem dX1_grows_16 : decode cX1_grows 16 = .ok (.getfield 23, 3) := dk_180 0 23 (dk_at dksX1_grows_0 16 rfl rfl)
theorem dX1_grows_19 : decode cX1_grows 19 = .ok (.iload_n 1, 1) := dk_27 (dk_at dksX1_grows_0 19 rfl rfl)
theorem dX1_grows_20 : decode cX1_grows 20 = .ok (.aaload, 1) := dk_50 (dk_at dksX1_grows_0 20 rfl rfl)
theorem dX1_grows_21 : decode cX1_grows 21 = .ok (.iload_n 3, 1) := dk_29 (dk_at dksX1_grows_0 21 rfl rfl)
theorem dX1_grows_22 : decode cX1_grows 22 = .ok (.baload, 1) := dk_51 (dk_at dksX1_grows_0 22 rfl rfl)
theorem dX1_grows_23 : decode cX1_grows 23 = .ok (.ldc 85, 2) := dk_18 85 (dk_at dksX1_grows_1 0 rfl rfl)
theorem dX1_grows_25 : decode cX1_grows 25 = .ok (.aload_n 0, 1) := dk_42 (dk_at dksX1_grows_1 2 rfl rfl)
theorem dX1_grows_26 : decode cX1_grows 26 = .ok (.getfield 15, 3) := dk_180 0 15 (dk_at dksX1_grows_1 3 rfl rfl)
theorem dX1_grows_29 : decode cX1_grows 29 = .ok (.aload_n 0, 1) := dk_42 (dk_at dksX1_grows_1 6 rfl rfl)
theorem dX1_grows_30 : decode cX1_grows 30 = .ok (.getfield 32, 3) := dk_180 0 32 (dk_at dksX1_grows_1 7 rfl rfl)
theorem dX1_grows_33 : decode cX1_grows 33 = .ok (.iload_n 1, 1) := dk_27 (dk_at dksX1_grows_1 10 rfl rfl)
theorem dX1_grows_34 : decode cX1_grows 34 = .ok (.iaload, 1) := dk_46 (dk_at dksX1_grows_1 11 rfl rfl)
theorem dX1_grows_35 : decode cX1_grows 35 = .ok (.iaload, 1) := dk_46 (dk_at dksX1_grows_1 12 rfl rfl)
theorem dX1_grows_36 : decode cX1_grows 36 = .ok (.invokevirtual 87, 3) := dk_182 0 87 (dk_at dksX1_grows_1 13 rfl rfl)
theorem dX1_grows_39 : decode cX1_grows 39 = .ok (.if_icmp .ne 7, 3) := dk_160 0 7 (dk_at dksX1_grows_1 16 rfl rfl)
theorem dX1_grows_42 : decode cX1_grows 42 = .ok (.iconst 1, 1) := dk_4 (dk_at dksX1_grows_1 19 rfl rfl)
theorem dX1_grows_43 : decode cX1_grows 43 = .ok (.goto 4, 3) := dk_167 0 4 (dk_at dksX1_grows_1 20 rfl rfl)
theorem dX1_grows_46 : decode cX1_grows 46 = .ok (.iconst 0, 1) := dk_3 (dk_at dksX1_grows_1 23 rfl rfl)
theorem dX1_grows_47 : decode cX1_grows 47 = .ok (.iadd, 1) := dk_96 (dk_at dksX1_grows_2 0 rfl rfl)
theorem dX1_grows_48 : decode cX1_grows 48 = .ok (.istore_n 2, 1) := dk_61 (dk_at dksX1_grows_2 1 rfl rfl)
theorem dX1_grows_49 : decode cX1_grows 49 = .ok (.iinc 3 1, 3) := dk_132 3 1 (dk_at dksX1_grows_2 2 rfl rfl)
theorem dX1_grows_52 : decode cX1_grows 52 = .ok (.goto (-48), 3) := dk_167 255 208 (dk_at dksX1_grows_2 5 rfl rfl)
theorem dX1_grows_55 : decode cX1_grows 55 = .ok (.aload_n 0, 1) := dk_42 (dk_at dksX1_grows_2 8 rfl rfl)
theorem dX1_grows_56 : decode cX1_grows 56 = .ok (.getfield 29, 3) := dk_180 0 29 (dk_at dksX1_grows_2 9 rfl rfl)
theorem dX1_grows_59 : decode cX1_grows 59 = .ok (.iload_n 1, 1) := dk_27 (dk_at dksX1_grows_2 12 rfl rfl)
theorem dX1_grows_60 : decode cX1_grows 60 = .ok (.iconst 0, 1) := dk_3 (dk_at dksX1_grows_2 13 rfl rfl)
theorem dX1_grows_61 : decode cX1_grows 61 = .ok (.bipush 99, 2) := dk_16 99 (dk_at dksX1_grows_2 14 rfl rfl)
theorem dX1_grows_63 : decode cX1_grows 63 = .ok (.aload_n 0, 1) := dk_42 (dk_at dksX1_grows_2 16 rfl rfl)
theorem dX1_grows_64 : decode cX1_grows 64 = .ok (.getfield 29, 3) := dk_180 0 29 (dk_at dksX1_grows_2 17 rfl rfl)
theorem dX1_grows_67 : decode cX1_grows 67 = .ok (.iload_n 1, 1) := dk_27 (dk_at dksX1_grows_2 20 rfl rfl)
theorem dX1_grows_68 : decode cX1_grows 68 = .ok (.iaload, 1) := dk_46 (dk_at dksX1_grows_2 21 rfl rfl)
theorem dX1_grows_69 : decode cX1_grows 69 = .ok (.getstatic 61, 3) := dk_178 0 61 (dk_at dksX1_grows_3 0 rfl rfl)
theorem dX1_grows_72 : decode cX1_grows 72 = .ok (.aload_n 0, 1) := dk_42 (dk_at dksX1_grows_3 3 rfl rfl)
theorem dX1_grows_73 : decode cX1_grows 73 = .ok (.getfield 18, 3) := dk_180 0 18 (dk_at dksX1_grows_3 4 rfl rfl)
theorem dX1_grows_76 : decode cX1_grows 76 = .ok (.iload_n 1, 1) := dk_27 (dk_at dksX1_grows_3 7 rfl rfl)
theorem dX1_grows_77 : decode cX1_grows 77 = .ok (.iaload, 1) := dk_46 (dk_at dksX1_grows_3 8 rfl rfl)
theorem dX1_grows_78 : decode cX1_grows 78 = .ok (.aaload, 1) := dk_50 (dk_at dksX1_grows_3 9 rfl rfl)
theorem dX1_grows_79 : decode cX1_grows 79 = .ok (.iload_n 2, 1) := dk_28 (dk_at dksX1_grows_3 10 rfl rfl)
theorem dX1_grows_80 : decode cX1_grows 80 = .ok (.invokevirtual 93, 3) := dk_182 0 93 (dk_at dksX1_grows_3 11 rfl rfl)
theorem dX1_grows_83 : decode cX1_grows 83 = .ok (.iadd, 1) := dk_96 (dk_at dksX1_grows_3 14 rfl rfl)
theorem dX1_grows_84 : decode cX1_grows 84 = .ok (.iconst 1, 1) := dk_4 (dk_at dksX1_grows_3 15 rfl rfl)
theorem dX1_grows_85 : decode cX1_grows 85 = .ok (.isub, 1) := dk_100 (dk_at dksX1_grows_3 16 rfl rfl)
theorem dX1_grows_86 : decode cX1_grows 86 = .ok (.invokestatic 96, 3) := dk_184 0 96 (dk_at dksX1_grows_3 17 rfl rfl)
theorem dX1_grows_89 : decode cX1_grows 89 = .ok (.invokestatic 101, 3) := dk_184 0 101 (dk_at dksX1_grows_3 20 rfl rfl)
theorem dX1_grows_92 : decode cX1_grows 92 = .ok (.iastore, 1) := dk_79 (dk_at dksX1_grows_3 23 rfl rfl)
theorem dX1_grows_93 : decode cX1_grows 93 = .ok (.return_, 1) := dk_177 (dk_at dksX1_grows_4 0 rfl rfl)
abbrev cX1_isHeard : ByteArray := prog_2_method_7_code
def yX1_isHeard : MethodName := ⟨RX1, "isHeard", "(II)Z"⟩
def dkwX1_isHeard_3 : List UInt8 := [184, 0, 77, 153, 0, 7, 4, 167, 0, 4, 3, 172]
abbrev dktX1_isHeard_3 : List UInt8 := dkwX1_isHeard_3 ++ []
def dkwX1_isHeard_2 : List UInt8 := [153, 0, 7, 9, 167, 0, 4, 10, 29, 153, 0, 11, 21, 4, 4, 100, 133, 167, 0, 6, 21, 4, 133]
abbrev dktX1_isHeard_2 : List UInt8 := dkwX1_isHeard_2 ++ dktX1_isHeard_3
def dkwX1_isHeard_1 : List UInt8 := [21, 4, 158, 0, 55, 28, 42, 27, 182, 0, 74, 112, 154, 0, 45, 28, 42, 27, 182, 0, 74, 108, 133, 29]
abbrev dktX1_isHeard_1 : List UInt8 := dkwX1_isHeard_1 ++ dktX1_isHeard_2
def dkwX1_isHeard_0 : List UInt8 := [42, 180, 0, 18, 27, 46, 5, 160, 0, 7, 4, 167, 0, 4, 3, 62, 42, 27, 182, 0, 71, 54, 4]
abbrev dktX1_isHeard_0 : List UInt8 := dkwX1_isHeard_0 ++ dktX1_isHeard_1
theorem dksX1_isHeard_0 : cX1_isHeard.data.toList.drop 0 = dktX1_isHeard_0 := by decide +kernel
theorem dksX1_isHeard_1 : cX1_isHeard.data.toList.drop 23 = dktX1_isHeard_1 := dk_seg dksX1_isHeard_0 23 rfl rfl
theorem dksX1_isHeard_2 : cX1_isHeard.data.toList.drop 47 = dktX1_isHeard_2 := dk_seg dksX1_isHeard_1 24 rfl rfl
theorem dksX1_isHeard_3 : cX1_isHeard.data.toList.drop 70 = dktX1_isHeard_3 := dk_seg dksX1_isHeard_2 23 rfl rfl
theorem dX1_isHeard_0 : decode cX1_isHeard 0 = .ok (.aload_n 0, 1) := dk_42 (dk_at dksX1_isHeard_0 0 rfl rfl)
theorem dX1_isHeard_1 : decode cX1_isHeard 1 = .ok (.getfield 18, 3) := dk_180 0 18 (dk_at dksX1_isHeard_0 1 rfl rfl)
theorem dX1_isHeard_4 : decode cX1_isHeard 4 = .ok (.iload_n 1, 1) := dk_27 (dk_at dksX1_isHeard_0 4 rfl rfl)
theorem dX1_isHeard_5 : decode cX1_isHeard 5 = .ok (.iaload, 1) := dk_46 (dk_at dksX1_isHeard_0 5 rfl rfl)
theorem dX1_isHeard_6 : decode cX1_isHeard 6 = .ok (.iconst 2, 1) := dk_5 (dk_at dksX1_isHeard_0 6 rfl rfl)
theorem dX1_isHeard_7 : decode cX1_isHeard 7 = .ok (.if_icmp .ne 7, 3) := dk_160 0 7 (dk_at dksX1_isHeard_0 7 rfl rfl)
theorem dX1_isHeard_10 : decode cX1_isHeard 10 = .ok (.iconst 1, 1) := dk_4 (dk_at dksX1_isHeard_0 10 rfl rfl)
theorem dX1_isHeard_11 : decode cX1_isHeard 11 = .ok (.goto 4, 3) := dk_167 0 4 (dk_at dksX1_isHeard_0 11 rfl rfl)
theorem dX1_isHeard_14 : decode cX1_isHeard 14 = .ok (.iconst 0, 1) := dk_3 (dk_at dksX1_isHeard_0 14 rfl rfl)
theorem dX1_isHeard_15 : decode cX1_isHeard 15 = .ok (.istore_n 3, 1) := dk_62 (dk_at dksX1_isHeard_0 15 rfl rfl)
theorem dX1_isHeard_16 : decode cX1_isHeard 16 = .ok (.aload_n 0, 1) := dk_42 (dk_at dksX1_isHeard_0 16 rfl rfl)
theorem dX1_isHeard_17 : decode cX1_isHeard 17 = .ok (.iload_n 1, 1) := dk_27 (dk_at dksX1_isHeard_0 17 rfl rfl)
theorem dX1_isHeard_18 : decode cX1_isHeard 18 = .ok (.invokevirtual 71, 3) := dk_182 0 71 (dk_at dksX1_isHeard_0 18 rfl rfl)
theorem dX1_isHeard_21 : decode cX1_isHeard 21 = .ok (.istore 4, 2) := dk_54 4 (dk_at dksX1_isHeard_0 21 rfl rfl)
theorem dX1_isHeard_23 : decode cX1_isHeard 23 = .ok (.iload 4, 2) := dk_21 4 (dk_at dksX1_isHeard_1 0 rfl rfl)
theorem dX1_isHeard_25 : decode cX1_isHeard 25 = .ok (.ifCond .le 55, 3) := dk_158 0 55 (dk_at dksX1_isHeard_1 2 rfl rfl)
theorem dX1_isHeard_28 : decode cX1_isHeard 28 = .ok (.iload_n 2, 1) := dk_28 (dk_at dksX1_isHeard_1 5 rfl rfl)
theorem dX1_isHeard_29 : decode cX1_isHeard 29 = .ok (.aload_n 0, 1) := dk_42 (dk_at dksX1_isHeard_1 6 rfl rfl)
theorem dX1_isHeard_30 : decode cX1_isHeard 30 = .ok (.iload_n 1, 1) := dk_27 (dk_at dksX1_isHeard_1 7 rfl rfl)
theorem dX1_isHeard_31 : decode cX1_isHeard 31 = .ok (.invokevirtual 74, 3) := dk_182 0 74 (dk_at dksX1_isHeard_1 8 rfl rfl)
theorem dX1_isHeard_34 : decode cX1_isHeard 34 = .ok (.irem, 1) := dk_112 (dk_at dksX1_isHeard_1 11 rfl rfl)
theorem dX1_isHeard_35 : decode cX1_isHeard 35 = .ok (.ifCond .ne 45, 3) := dk_154 0 45 (dk_at dksX1_isHeard_1 12 rfl rfl)
theorem dX1_isHeard_38 : decode cX1_isHeard 38 = .ok (.iload_n 2, 1) := dk_28 (dk_at dksX1_isHeard_1 15 rfl rfl)
theorem dX1_isHeard_39 : decode cX1_isHeard 39 = .ok (.aload_n 0, 1) := dk_42 (dk_at dksX1_isHeard_1 16 rfl rfl)
theorem dX1_isHeard_40 : decode cX1_isHeard 40 = .ok (.iload_n 1, 1) := dk_27 (dk_at dksX1_isHeard_1 17 rfl rfl)
theorem dX1_isHeard_41 : decode cX1_isHeard 41 = .ok (.invokevirtual 74, 3) := dk_182 0 74 (dk_at dksX1_isHeard_1 18 rfl rfl)
theorem dX1_isHeard_44 : decode cX1_isHeard 44 = .ok (.idiv, 1) := dk_108 (dk_at dksX1_isHeard_1 21 rfl rfl)
theorem dX1_isHeard_45 : decode cX1_isHeard 45 = .ok (.i2l, 1) := dk_133 (dk_at dksX1_isHeard_1 22 rfl rfl)
theorem dX1_isHeard_46 : decode cX1_isHeard 46 = .ok (.iload_n 3, 1) := dk_29 (dk_at dksX1_isHeard_1 23 rfl rfl)
theorem dX1_isHeard_47 : decode cX1_isHeard 47 = .ok (.ifCond .eq 7, 3) := dk_153 0 7 (dk_at dksX1_isHeard_2 0 rfl rfl)
theorem dX1_isHeard_50 : decode cX1_isHeard 50 = .ok (.lconst 0, 1) := dk_9 (dk_at dksX1_isHeard_2 3 rfl rfl)
theorem dX1_isHeard_51 : decode cX1_isHeard 51 = .ok (.goto 4, 3) := dk_167 0 4 (dk_at dksX1_isHeard_2 4 rfl rfl)
theorem dX1_isHeard_54 : decode cX1_isHeard 54 = .ok (.lconst 1, 1) := dk_10 (dk_at dksX1_isHeard_2 7 rfl rfl)
theorem dX1_isHeard_55 : decode cX1_isHeard 55 = .ok (.iload_n 3, 1) := dk_29 (dk_at dksX1_isHeard_2 8 rfl rfl)
theorem dX1_isHeard_56 : decode cX1_isHeard 56 = .ok (.ifCond .eq 11, 3) := dk_153 0 11 (dk_at dksX1_isHeard_2 9 rfl rfl)
theorem dX1_isHeard_59 : decode cX1_isHeard 59 = .ok (.iload 4, 2) := dk_21 4 (dk_at dksX1_isHeard_2 12 rfl rfl)
theorem dX1_isHeard_61 : decode cX1_isHeard 61 = .ok (.iconst 1, 1) := dk_4 (dk_at dksX1_isHeard_2 14 rfl rfl)
theorem dX1_isHeard_62 : decode cX1_isHeard 62 = .ok (.isub, 1) := dk_100 (dk_at dksX1_isHeard_2 15 rfl rfl)
theorem dX1_isHeard_63 : decode cX1_isHeard 63 = .ok (.i2l, 1) := dk_133 (dk_at dksX1_isHeard_2 16 rfl rfl)
theorem dX1_isHeard_64 : decode cX1_isHeard 64 = .ok (.goto 6, 3) := dk_167 0 6 (dk_at dksX1_isHeard_2 17 rfl rfl)
theorem dX1_isHeard_67 : decode cX1_isHeard 67 = .ok (.iload 4, 2) := dk_21 4 (dk_at dksX1_isHeard_2 20 rfl rfl)
theorem dX1_isHeard_69 : decode cX1_isHeard 69 = .ok (.i2l, 1) := dk_133 (dk_at dksX1_isHeard_2 22 rfl rfl)
theorem dX1_isHeard_70 : decode cX1_isHeard 70 = .ok (.invokestatic 77, 3) := dk_184 0 77 (dk_at dksX1_isHeard_3 0 rfl rfl)
theorem dX1_isHeard_73 : decode cX1_isHeard 73 = .ok (.ifCond .eq 7, 3) := dk_153 0 7 (dk_at dksX1_isHeard_3 3 rfl rfl)
theorem dX1_isHeard_76 : decode cX1_isHeard 76 = .ok (.iconst 1, 1) := dk_4 (dk_at dksX1_isHeard_3 6 rfl rfl)
theorem dX1_isHeard_77 : decode cX1_isHeard 77 = .ok (.goto 4, 3) := dk_167 0 4 (dk_at dksX1_isHeard_3 7 rfl rfl)
theorem dX1_isHeard_80 : decode cX1_isHeard 80 = .ok (.iconst 0, 1) := dk_3 (dk_at dksX1_isHeard_3 10 rfl rfl)
theorem dX1_isHeard_81 : decode cX1_isHeard 81 = .ok (.ireturn, 1) := dk_172 (dk_at dksX1_isHeard_3 11 rfl rfl)
theorem q86 : (Jvm.Cond.initialized "EchoPens$Farm") ∈ lw_all := lw_g (lw_at lw_m1 2 rfl) rfl
theorem q138 : (Jvm.Cond.instantiable "EchoPens$Farm" (11 : Nat)) ∈ lw_all := lw_g (lw_at lw_m1 54 rfl) rfl
theorem q140 : (Jvm.Cond.instanceMethod ({ cls := "EchoPens$Farm", name := "<init>", desc := "()V" } : Jvm.MethodName)) ∈ lw_all := lw_g (lw_at lw_m1 56 rfl) rfl
theorem q141 : (Jvm.Cond.code ({ cls := "EchoPens$Farm", name := "<init>", desc := "()V" } : Jvm.MethodName) prog_2_method_1_code (1 : Nat) (Option.none : Option Jvm.ClassFile.FieldType)) ∈ lw_all := lw_g (lw_at lw_m1 57 rfl) rfl
theorem q142 : (Jvm.Cond.methodLink "EchoPens$Farm" (3 : Nat) ({ cls := "java/lang/Object", name := "<init>", desc := "()V" } : Jvm.MethodName)) ∈ lw_all := lw_g (lw_at lw_m1 58 rfl) rfl
theorem q143 : (Jvm.Cond.classLink "EchoPens$Farm" (21 : Nat) "[[B") ∈ lw_all := lw_g (lw_at lw_m1 59 rfl) rfl
theorem q145 : (Jvm.Cond.fieldLink "EchoPens$Farm" (9 : Nat) "EchoPens$Farm" "distances" "[I") ∈ lw_all := lw_g (lw_at lw_m1 61 rfl) rfl
theorem q148 : (Jvm.Cond.fieldLink "EchoPens$Farm" (15 : Nat) "EchoPens$Farm" "vowels" "[I") ∈ lw_all := lw_g (lw_at lw_m1 64 rfl) rfl
theorem q151 : (Jvm.Cond.fieldLink "EchoPens$Farm" (18 : Nat) "EchoPens$Farm" "breeds" "[I") ∈ lw_all := lw_g (lw_at lw_m1 67 rfl) rfl
theorem q154 : (Jvm.Cond.fieldLink "EchoPens$Farm" (23 : Nat) "EchoPens$Farm" "words" "[[B") ∈ lw_all := lw_g (lw_at lw_m1 70 rfl) rfl
theorem q157 : (Jvm.Cond.fieldLink "EchoPens$Farm" (26 : Nat) "EchoPens$Farm" "many" "[I") ∈ lw_all := lw_g (lw_at lw_m1 73 rfl) rfl
theorem q160 : (Jvm.Cond.fieldLink "EchoPens$Farm" (29 : Nat) "EchoPens$Farm" "louds" "[I") ∈ lw_all := lw_g (lw_at lw_m1 76 rfl) rfl
theorem q163 : (Jvm.Cond.fieldLink "EchoPens$Farm" (32 : Nat) "EchoPens$Farm" "pens" "[I") ∈ lw_all := lw_g (lw_at lw_m1 79 rfl) rfl
theorem q166 : (Jvm.Cond.fieldLink "EchoPens$Farm" (41 : Nat) "EchoPens$Farm" "echoMany" "I") ∈ lw_all := lw_g (lw_at lw_m1 82 rfl) rfl
theorem q169 : (Jvm.Cond.fieldLink "EchoPens$Farm" (45 : Nat) "EchoPens$Farm" "done" "I") ∈ lw_all := lw_g (lw_at lw_m1 85 rfl) rfl
theorem q171 : (Jvm.Cond.fieldLink "EchoPens$Farm" (48 : Nat) "EchoPens$Farm" "week" "I") ∈ lw_all := lw_g (lw_at lw_m1 87 rfl) rfl
theorem q173 : (Jvm.Cond.fieldLink "EchoPens$Farm" (51 : Nat) "EchoPens$Farm" "money" "I") ∈ lw_all := lw_g (lw_at lw_m1 89 rfl) rfl
theorem q175 : (Jvm.Cond.laysFinal "EchoPens$Farm" "EchoPens$Farm" "distances" "[I") ∈ lw_all := lw_g (lw_at lw_m1 91 rfl) rfl
theorem q176 : (Jvm.Cond.soleField "EchoPens$Farm" "distances") ∈ lw_all := lw_g (lw_at lw_m1 92 rfl) rfl
theorem q177 : (Jvm.Cond.laysFinal "EchoPens$Farm" "EchoPens$Farm" "vowels" "[I") ∈ lw_all := lw_g (lw_at lw_m1 93 rfl) rfl
theorem q178 : (Jvm.Cond.soleField "EchoPens$Farm" "vowels") ∈ lw_all := lw_g (lw_at lw_m1 94 rfl) rfl
theorem q179 : (Jvm.Cond.laysFinal "EchoPens$Farm" "EchoPens$Farm" "breeds" "[I") ∈ lw_all := lw_g (lw_at lw_m1 95 rfl) rfl
theorem q180 : (Jvm.Cond.soleField "EchoPens$Farm" "breeds") ∈ lw_all := lw_g (lw_at lw_m1 96 rfl) rfl
theorem q181 : (Jvm.Cond.laysFinal "EchoPens$Farm" "EchoPens$Farm" "words" "[[B") ∈ lw_all := lw_g (lw_at lw_m1 97 rfl) rfl
theorem q182 : (Jvm.Cond.soleField "EchoPens$Farm" "words") ∈ lw_all := lw_g (lw_at lw_m1 98 rfl) rfl
theorem q183 : (Jvm.Cond.laysFinal "EchoPens$Farm" "EchoPens$Farm" "many" "[I") ∈ lw_all := lw_g (lw_at lw_m1 99 rfl) rfl
theorem q184 : (Jvm.Cond.soleField "EchoPens$Farm" "many") ∈ lw_all := lw_g (lw_at lw_m1 100 rfl) rfl
theorem q185 : (Jvm.Cond.laysFinal "EchoPens$Farm" "EchoPens$Farm" "louds" "[I") ∈ lw_all := lw_g (lw_at lw_m1 101 rfl) rfl
theorem q186 : (Jvm.Cond.soleField "EchoPens$Farm" "louds") ∈ lw_all := lw_g (lw_at lw_m1 102 rfl) rfl
theorem q187 : (Jvm.Cond.laysFinal "EchoPens$Farm" "EchoPens$Farm" "pens" "[I") ∈ lw_all := lw_g (lw_at lw_m1 103 rfl) rfl
theorem q188 : (Jvm.Cond.soleField "EchoPens$Farm" "pens") ∈ lw_all := lw_g (lw_at lw_m1 104 rfl) rfl
theorem q189 : (Jvm.Cond.lays "EchoPens$Farm" "EchoPens$Farm" "echoMany" "I") ∈ lw_all := lw_g (lw_at lw_m1 105 rfl) rfl
theorem q190 : (Jvm.Cond.soleField "EchoPens$Farm" "echoMany") ∈ lw_all := lw_g (lw_at lw_m1 106 rfl) rfl
theorem q191 : (Jvm.Cond.lays "EchoPens$Farm" "EchoPens$Farm" "done" "I") ∈ lw_all := lw_g (lw_at lw_m1 107 rfl) rfl
theorem q192 : (Jvm.Cond.soleField "EchoPens$Farm" "done") ∈ lw_all := lw_g (lw_at lw_m1 108 rfl) rfl
theorem q193 : (Jvm.Cond.lays "EchoPens$Farm" "EchoPens$Farm" "week" "I") ∈ lw_all := lw_g (lw_at lw_m1 109 rfl) rfl
theorem q194 : (Jvm.Cond.soleField "EchoPens$Farm" "week") ∈ lw_all := lw_g (lw_at lw_m1 110 rfl) rfl
theorem q195 : (Jvm.Cond.lays "EchoPens$Farm" "EchoPens$Farm" "money" "I") ∈ lw_all := lw_g (lw_at lw_m1 111 rfl) rfl
theorem q196 : (Jvm.Cond.soleField "EchoPens$Farm" "money") ∈ lw_all := lw_g (lw_at lw_m1 112 rfl) rfl
theorem q197 : (Jvm.Cond.superclass "EchoPens$Farm" "java/lang/Object") ∈ lw_all := lw_g (lw_at lw_m1 113 rfl) rfl
theorem q526 : (Jvm.Cond.instanceMethod ({ cls := "EchoPens$Farm", name := "in", desc := "(I)I" } : Jvm.MethodName)) ∈ lw_all := lw_g (lw_at lw_m2 202 rfl) rfl
theorem q527 : (Jvm.Cond.selects "EchoPens$Farm" ({ cls := "EchoPens$Farm", name := "in", desc := "(I)I" } : Jvm.MethodName) ({ cls := "EchoPens$Farm", name := "in", desc := "(I)I" } : Jvm.MethodName)) ∈ lw_all := lw_g (lw_at lw_m2 203 rfl) rfl
theorem q528 : (Jvm.Cond.code ({ cls := "EchoPens$Farm", name := "in", desc := "(I)I" } : Jvm.MethodName) prog_2_method_8_code (4 : Nat) (Option.some Jvm.ClassFile.FieldType.int)) ∈ lw_all := lw_g (lw_at lw_m2 204 rfl) rfl
theorem q536 : (Jvm.Cond.instanceMethod ({ cls := "EchoPens$Farm", name := "takes", desc := "(LEchoPens$Farm;)V" } : Jvm.MethodName)) ∈ lw_all := lw_g (lw_at lw_m2 212 rfl) rfl
theorem q537 : (Jvm.Cond.selects "EchoPens$Farm" ({ cls := "EchoPens$Farm", name := "takes", desc := "(LEchoPens$Farm;)V" } : Jvm.MethodName) ({ cls := "EchoPens$Farm", name := "takes", desc := "(LEchoPens$Farm;)V" } : Jvm.MethodName)) ∈ lw_all := lw_g (lw_at lw_m2 213 rfl) rfl
theorem q538 : (Jvm.Cond.code ({ cls := "EchoPens$Farm", name := "takes", desc := "(LEchoPens$Farm;)V" } : Jvm.MethodName) prog_2_method_2_code (3 : Nat) (Option.none : Option Jvm.ClassFile.FieldType)) ∈ lw_all := lw_g (lw_at lw_m2 214 rfl) rfl
theorem q539 : (Jvm.Cond.methodLink "EchoPens$Farm" (35 : Nat) ({ cls := "java/lang/System", name := "arraycopy", desc := "(Ljava/lang/Object;ILjava/lang/Object;II)V" } : Jvm.MethodName)) ∈ lw_all := lw_g (lw_at lw_m2 215 rfl) rfl
theorem q550 : (Jvm.Cond.instanceMethod ({ cls := "EchoPens$Farm", name := "silent", desc := "()I" } : Jvm.MethodName)) ∈ lw_all := lw_g (lw_at lw_m2 226 rfl) rfl
theorem q551 : (Jvm.Cond.selects "EchoPens$Farm" ({ cls := "EchoPens$Farm", name := "silent", desc := "()I" } : Jvm.MethodName) ({ cls := "EchoPens$Farm", name := "silent", desc := "()I" } : Jvm.MethodName)) ∈ lw_all := lw_g (lw_at lw_m2 227 rfl) rfl
theorem q552 : (Jvm.Cond.code ({ cls := "EchoPens$Farm", name := "silent", desc := "()I" } : Jvm.MethodName) prog_2_method_9_code (3 : Nat) (Option.some Jvm.ClassFile.FieldType.int)) ∈ lw_all := lw_g (lw_at lw_m2 228 rfl) rfl
theorem q553 : (Jvm.Cond.methodLink "EchoPens$Farm" (54 : Nat) ({ cls := "EchoPens$Farm", name := "isSold", desc := "(I)Z" } : Jvm.MethodName)) ∈ lw_all := lw_g (lw_at lw_m2 229 rfl) rfl
theorem q554 : (Jvm.Cond.instanceMethod ({ cls := "EchoPens$Farm", name := "isSold", desc := "(I)Z" } : Jvm.MethodName)) ∈ lw_all := lw_g (lw_at lw_m2 230 rfl) rfl
theorem q555 : (Jvm.Cond.selects "EchoPens$Farm" ({ cls := "EchoPens$Farm", name := "isSold", desc := "(I)Z" } : Jvm.MethodName) ({ cls := "EchoPens$Farm", name := "isSold", desc := "(I)Z" } : Jvm.MethodName)) ∈ lw_all := lw_g (lw_at lw_m2 231 rfl) rfl
theorem q556 : (Jvm.Cond.code ({ cls := "EchoPens$Farm", name := "isSold", desc := "(I)Z" } : Jvm.MethodName) prog_2_method_3_code (2 : Nat) (Option.some Jvm.ClassFile.FieldType.boolean)) ∈ lw_all := lw_g (lw_at lw_m2 232 rfl) rfl
theorem q557 : (Jvm.Cond.methodLink "EchoPens$Farm" (58 : Nat) ({ cls := "EchoPens$Farm", name := "isSilent", desc := "(I)Z" } : Jvm.MethodName)) ∈ lw_all := lw_g (lw_at lw_m2 233 rfl) rfl
theorem q558 : (Jvm.Cond.instanceMethod ({ cls := "EchoPens$Farm", name := "isSilent", desc := "(I)Z" } : Jvm.MethodName)) ∈ lw_all := lw_g (lw_at lw_m2 234 rfl) rfl
theorem q559 : (Jvm.Cond.selects "EchoPens$Farm" ({ cls := "EchoPens$Farm", name := "isSilent", desc := "(I)Z" } : Jvm.MethodName) ({ cls := "EchoPens$Farm", name := "isSilent", desc := "(I)Z" } : Jvm.MethodName)) ∈ lw_all := lw_g (lw_at lw_m2 235 rfl) rfl
theorem q560 : (Jvm.Cond.code ({ cls := "EchoPens$Farm", name := "isSilent", desc := "(I)Z" } : Jvm.MethodName) prog_2_method_4_code (2 : Nat) (Option.some Jvm.ClassFile.FieldType.boolean)) ∈ lw_all := lw_g (lw_at lw_m2 236 rfl) rfl
theorem q580 : (Jvm.Cond.instanceMethod ({ cls := "EchoPens$Farm", name := "returns", desc := "(I)I" } : Jvm.MethodName)) ∈ lw_all := lw_g (lw_at lw_m3 16 rfl) rfl
theorem q581 : (Jvm.Cond.selects "EchoPens$Farm" ({ cls := "EchoPens$Farm", name := "returns", desc := "(I)I" } : Jvm.MethodName) ({ cls := "EchoPens$Farm", name := "returns", desc := "(I)I" } : Jvm.MethodName)) ∈ lw_all := lw_g (lw_at lw_m3 17 rfl) rfl
theorem q582 : (Jvm.Cond.code ({ cls := "EchoPens$Farm", name := "returns", desc := "(I)I" } : Jvm.MethodName) prog_2_method_5_code (2 : Nat) (Option.some Jvm.ClassFile.FieldType.int)) ∈ lw_all := lw_g (lw_at lw_m3 18 rfl) rfl
theorem q583 : (Jvm.Cond.fieldLinkNest "EchoPens$Farm" (61 : Nat) "EchoPens" "BREEDS" "[LEchoPens$Plain;" "EchoPens") ∈ lw_tbl := lw_at lw_m3 19 rfl
theorem q585 : (Jvm.Cond.methodLink "EchoPens$Farm" (65 : Nat) ({ cls := "EchoPens$Plain", name := "returns", desc := "(II)I" } : Jvm.MethodName)) ∈ lw_all := lw_g (lw_at lw_m3 21 rfl) rfl
theorem q606 : (Jvm.Cond.instanceMethod ({ cls := "EchoPens$Farm", name := "period", desc := "(I)I" } : Jvm.MethodName)) ∈ lw_all := lw_g (lw_at lw_m3 42 rfl) rfl
theorem q607 : (Jvm.Cond.selects "EchoPens$Farm" ({ cls := "EchoPens$Farm", name := "period", desc := "(I)I" } : Jvm.MethodName) ({ cls := "EchoPens$Farm", name := "period", desc := "(I)I" } : Jvm.MethodName)) ∈ lw_all := lw_g (lw_at lw_m3 43 rfl) rfl
theorem q608 : (Jvm.Cond.code ({ cls := "EchoPens$Farm", name := "period", desc := "(I)I" } : Jvm.MethodName) prog_2_method_6_code (2 : Nat) (Option.some Jvm.ClassFile.FieldType.int)) ∈ lw_all := lw_g (lw_at lw_m3 44 rfl) rfl
theorem q676 : (Jvm.Cond.instanceMethod ({ cls := "EchoPens$Farm", name := "week", desc := "()V" } : Jvm.MethodName)) ∈ lw_all := lw_g (lw_at lw_m3 112 rfl) rfl
theorem q677 : (Jvm.Cond.selects "EchoPens$Farm" ({ cls := "EchoPens$Farm", name := "week", desc := "()V" } : Jvm.MethodName) ({ cls := "EchoPens$Farm", name := "week", desc := "()V" } : Jvm.MethodName)) ∈ lw_all := lw_g (lw_at lw_m3 113 rfl) rfl
theorem q678 : (Jvm.Cond.code ({ cls := "EchoPens$Farm", name := "week", desc := "()V" } : Jvm.MethodName) prog_2_method_12_code (4 : Nat) (Option.none : Option Jvm.ClassFile.FieldType)) ∈ lw_all := lw_g (lw_at lw_m3 114 rfl) rfl
theorem q679 : (Jvm.Cond.methodLink "EchoPens$Farm" (104 : Nat) ({ cls := "EchoPens$Farm", name := "isSpoiled", desc := "(I)Z" } : Jvm.MethodName)) ∈ lw_all := lw_g (lw_at lw_m3 115 rfl) rfl
theorem q680 : (Jvm.Cond.privateMethod ({ cls := "EchoPens$Farm", name := "isSpoiled", desc := "(I)Z" } : Jvm.MethodName)) ∈ lw_tbl := lw_at lw_m3 116 rfl
theorem q681 : (Jvm.Cond.instanceMethod ({ cls := "EchoPens$Farm", name := "isSpoiled", desc := "(I)Z" } : Jvm.MethodName)) ∈ lw_all := lw_g (lw_at lw_m3 117 rfl) rfl
theorem q682 : (Jvm.Cond.code ({ cls := "EchoPens$Farm", name := "isSpoiled", desc := "(I)Z" } : Jvm.MethodName) prog_2_method_10_code (4 : Nat) (Option.some Jvm.ClassFile.FieldType.boolean)) ∈ lw_all := lw_g (lw_at lw_m3 118 rfl) rfl
theorem q683 : (Jvm.Cond.methodLink "EchoPens$Farm" (81 : Nat) ({ cls := "EchoPens$Plain", name := "spoils", desc := "()Z" } : Jvm.MethodName)) ∈ lw_all := lw_g (lw_at lw_m3 119 rfl) rfl
theorem q696 : (Jvm.Cond.methodLink "EchoPens$Farm" (107 : Nat) ({ cls := "EchoPens$Farm", name := "grows", desc := "(I)V" } : Jvm.MethodName)) ∈ lw_all := lw_g (lw_at lw_m3 132 rfl) rfl
theorem q697 : (Jvm.Cond.privateMethod ({ cls := "EchoPens$Farm", name := "grows", desc := "(I)V" } : Jvm.MethodName)) ∈ lw_tbl := lw_at lw_m3 133 rfl
theorem q698 : (Jvm.Cond.instanceMethod ({ cls := "EchoPens$Farm", name := "grows", desc := "(I)V" } : Jvm.MethodName)) ∈ lw_all := lw_g (lw_at lw_m3 134 rfl) rfl
theorem q699 : (Jvm.Cond.code ({ cls := "EchoPens$Farm", name := "grows", desc := "(I)V" } : Jvm.MethodName) prog_2_method_11_code (4 : Nat) (Option.none : Option Jvm.ClassFile.FieldType)) ∈ lw_all := lw_g (lw_at lw_m3 135 rfl) rfl
theorem q700 : (Jvm.Cond.stringRef "EchoPens$Farm" (85 : Nat) "aeiou") ∈ lw_tbl := lw_at lw_m3 136 rfl
theorem q701 : (Jvm.Cond.methodLink "EchoPens$Farm" (87 : Nat) ({ cls := "java/lang/String", name := "charAt", desc := "(I)C" } : Jvm.MethodName)) ∈ lw_all := lw_g (lw_at lw_m3 137 rfl) rfl
theorem q702 : (Jvm.Cond.methodLink "EchoPens$Farm" (93 : Nat) ({ cls := "EchoPens$Plain", name := "gain", desc := "(I)I" } : Jvm.MethodName)) ∈ lw_all := lw_g (lw_at lw_m3 138 rfl) rfl
theorem q717 : (Jvm.Cond.methodLink "EchoPens$Farm" (96 : Nat) ({ cls := "java/lang/Math", name := "min", desc := "(II)I" } : Jvm.MethodName)) ∈ lw_all := lw_g (lw_at lw_m3 153 rfl) rfl
theorem q718 : (Jvm.Cond.methodLink "EchoPens$Farm" (101 : Nat) ({ cls := "java/lang/Math", name := "max", desc := "(II)I" } : Jvm.MethodName)) ∈ lw_all := lw_g (lw_at lw_m3 154 rfl) rfl
theorem q745 : (Jvm.Cond.instanceMethod ({ cls := "EchoPens$Farm", name := "isHeard", desc := "(II)Z" } : Jvm.MethodName)) ∈ lw_all := lw_g (lw_at lw_m3 181 rfl) rfl
theorem q746 : (Jvm.Cond.selects "EchoPens$Farm" ({ cls := "EchoPens$Farm", name := "isHeard", desc := "(II)Z" } : Jvm.MethodName) ({ cls := "EchoPens$Farm", name := "isHeard", desc := "(II)Z" } : Jvm.MethodName)) ∈ lw_all := lw_g (lw_at lw_m3 182 rfl) rfl
theorem q747 : (Jvm.Cond.code ({ cls := "EchoPens$Farm", name := "isHeard", desc := "(II)Z" } : Jvm.MethodName) prog_2_method_7_code (5 : Nat) (Option.some Jvm.ClassFile.FieldType.boolean)) ∈ lw_all := lw_g (lw_at lw_m3 183 rfl) rfl
theorem q748 : (Jvm.Cond.methodLink "EchoPens$Farm" (71 : Nat) ({ cls := "EchoPens$Farm", name := "returns", desc := "(I)I" } : Jvm.MethodName)) ∈ lw_all := lw_g (lw_at lw_m3 184 rfl) rfl
theorem q749 : (Jvm.Cond.methodLink "EchoPens$Farm" (74 : Nat) ({ cls := "EchoPens$Farm", name := "period", desc := "(I)I" } : Jvm.MethodName)) ∈ lw_all := lw_g (lw_at lw_m3 185 rfl) rfl
theorem q750 : (Jvm.Cond.methodLinkNest "EchoPens$Farm" (77 : Nat) ({ cls := "EchoPens", name := "isIn", desc := "(JJJ)Z" } : Jvm.MethodName) "EchoPens") ∈ lw_tbl := lw_at lw_m3 186 rfl
theorem in_X1 : ∀ w ∈ wsX10, w ∈ lw_all := lw_in wsX10 [175, 177, 179, 181, 183, 185, 187, 189, 191, 193, 195] (by decide +kernel) (by decide +kernel)
