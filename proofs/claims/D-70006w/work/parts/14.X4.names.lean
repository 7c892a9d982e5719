/-! EchoPensModel -/
set_option maxRecDepth 100000
def RX4 : String := "EchoPensModel"
def TX4 : u_T := fun k => match k with
  | 0 => ("EchoPensModel", "st", "[I", true)
  | 1 => ("EchoPensModel", "at", "[I", true)
  | 2 => ("EchoPensModel", "isKept", "[Z", true)
  | 3 => ("EchoPensModel", "pens", "I", false)
  | 4 => ("EchoPensModel", "echoes", "I", false)
  | 5 => ("EchoPensModel", "orders", "I", false)
  | 6 => ("EchoPensModel", "terms", "[I", true)
  | 7 => ("EchoPensModel", "draft", "[I", true)
  | 8 => ("EchoPensModel", "dPens", "I", false)
  | 9 => ("EchoPensModel", "dEchoes", "I", false)
  | 10 => ("EchoPensModel", "dOrders", "I", false)
  | 11 => ("EchoPensModel", "dOrder", "[I", true)
  | 12 => ("EchoPensModel", "highest", "I", false)
  | 13 => ("EchoPensModel", "tape", "[I", true)
  | 14 => ("EchoPensModel", "taped", "I", false)
  | 15 => ("EchoPensModel", "pos", "I", false)
  | 16 => ("EchoPensModel", "from", "I", false)
  | 17 => ("EchoPensModel", "sort", "I", false)
  | 18 => ("EchoPensModel", "value", "I", false)
  | 19 => ("EchoPensModel", "fault", "I", false)
  | 20 => ("EchoPensModel", "wrongAt", "I", false)
  | 21 => ("EchoPensModel", "meeting", "[I", true)
  | 22 => ("EchoPensModel", "saleNumber", "I", false)
  | 23 => ("EchoPensModel", "keptSum", "J", false)
  | 24 => ("EchoPensModel", "keptLetters", "J", false)
  | 25 => ("EchoPensModel", "allWays", "J", false)
  | 26 => ("EchoPensModel", "ways", "[I", true)
  | 27 => ("EchoPensModel", "lanes", "[I", true)
  | 28 => ("EchoPensModel", "sizes", "[I", true)
  | 29 => ("EchoPensModel", "cells", "[I", true)
  | 30 => ("EchoPensModel", "torn", "I", false)
  | _ => ("EchoPensModel", "had", "[I", true)
def tyX4 : Nat → FieldType := fun k => match k with
  | 0 => .array .int
  | 1 => .array .int
  | 2 => .array .boolean
  | 3 => .int
  | 4 => .int
  | 5 => .int
  | 6 => .array .int
  | 7 => .array .int
  | 8 => .int
  | 9 => .int
  | 10 => .int
  | 11 => .array .int
  | 12 => .int
  | 13 => .array .int
  | 14 => .int
  | 15 => .int
  | 16 => .int
  | 17 => .int
  | 18 => .int
  | 19 => .int
  | 20 => .int
  | 21 => .array .int
  | 22 => .int
  | 23 => .long
  | 24 => .long
  | 25 => .long
  | 26 => .array .int
  | 27 => .array .int
  | 28 => .array .int
  | 29 => .array .int
  | 30 => .int
  | _ => .array .int
abbrev wsX40 : List Cond := u_ws RX4 TX4 32
set_option maxRecDepth 100000 in
theorem nmX4 : ∀ a, a < 32 → ∀ b, b < 32 → a ≠ b → (TX4 a).2.1 ≠ (TX4 b).2.1 := by decide +kernel
set_option maxRecDepth 100000 in
theorem tyX4_ok : ∀ k, k < 32 → parseFieldDescriptor (TX4 k).2.2.1 = some (tyX4 k) := by decide +kernel
abbrev cX4_init : ByteArray := prog_13_method_1_code
def yX4_init : MethodName := ⟨RX4, "<init>", "()V"⟩
def dkwX4_init_5 : List UInt8 := [180, 0, 38, 27, 16, 252, 79, 132, 1, 1, 167, 255, 240, 42, 182, 0, 50, 42, 182, 0, 53, 177]
abbrev dktX4_init_5 : List UInt8 := dkwX4_init_5 ++ []
def dkwX4_init_4 : List UInt8 := [17, 0, 160, 188, 10, 181, 0, 44, 42, 16, 75, 188, 10, 181, 0, 47, 3, 60, 27, 7, 162, 0, 17, 42]
abbrev dktX4_init_4 : List UInt8 := dkwX4_init_4 ++ dktX4_init_5
def dkwX4_init_3 : List UInt8 := [17, 0, 186, 188, 10, 181, 0, 35, 42, 7, 188, 10, 181, 0, 38, 42, 7, 188, 10, 181, 0, 41, 42]
abbrev dktX4_init_3 : List UInt8 := dkwX4_init_3 ++ dktX4_init_4
def dkwX4_init_2 : List UInt8 := [188, 10, 181, 0, 26, 42, 17, 0, 160, 188, 10, 181, 0, 29, 42, 7, 188, 10, 181, 0, 32, 42]
abbrev dktX4_init_2 : List UInt8 := dkwX4_init_2 ++ dktX4_init_3
def dkwX4_init_1 : List UInt8 := [188, 4, 181, 0, 16, 42, 16, 32, 188, 10, 181, 0, 20, 42, 16, 75, 188, 10, 181, 0, 23, 42, 16, 32]
abbrev dktX4_init_1 : List UInt8 := dkwX4_init_1 ++ dktX4_init_2
def dkwX4_init_0 : List UInt8 := [42, 183, 0, 1, 42, 17, 0, 225, 188, 10, 181, 0, 7, 42, 16, 75, 188, 10, 181, 0, 13, 42, 5]
abbrev dktX4_init_0 : List UInt8 := dkwX4_init_0 ++ dktX4_init_1
theorem dksX4_init_0 : cX4_init.data.toList.drop 0 = dktX4_init_0 := by decide +kernel
theorem dksX4_init_1 : cX4_init.data.toList.drop 23 = dktX4_init_1 := dk_seg dksX4_init_0 23 rfl rfl
theorem dksX4_init_2 : cX4_init.data.toList.drop 47 = dktX4_init_2 := dk_seg dksX4_init_1 24 rfl rfl
theorem dksX4_init_3 : cX4_init.data.toList.drop 69 = dktX4_init_3 := dk_seg dksX4_init_2 22 rfl rfl
theorem dksX4_init_4 : cX4_init.data.toList.drop 92 = dktX4_init_4 := dk_seg dksX4_init_3 23 rfl rfl
theorem dksX4_init_5 : cX4_init.data.toList.drop 116 = dktX4_init_5 := dk_seg dksX4_init_4 24 rfl rfl
theorem dX4_init_0 : decode cX4_init 0 = .ok (.aload_n 0, 1) := dk_42 (dk_at dksX4_init_0 0 rfl rfl)
theorem dX4_init_1 : decode cX4_init 1 = .ok (.invokespecial 1, 3) := dk_183 0 1 (dk_at dksX4_init_0 1 rfl rfl)
theorem dX4_init_4 : decode cX4_init 4 = .ok (.aload_n 0, 1) := dk_42 (dk_at dksX4_init_0 4 rfl rfl)
theorem dX4_init_5 : decode cX4_init 5 = .ok (.sipush 225, 3) := dk_17 0 225 (dk_at dksX4_init_0 5 rfl rfl)
theorem dX4_init_8 : decode cX4_init 8 = .ok (.newarray .int, 2) := dk_188_10 (dk_at dksX4_init_0 8 rfl rfl)
theorem dX4_init_10 : decode cX4_init 10 = .ok (.putfield 7, 3) := dk_181 0 7 (dk_at dksX4_init_0 10 rfl rfl)
theorem dX4_init_13 : decode cX4_init 13 = .ok (.aload_n 0, 1) := dk_42 (dk_at dksX4_init_0 13 rfl rfl)
theorem dX4_init_14 : decode cX4_init 14 = .ok (.bipush 75, 2) := dk_16 75 (dk_at dksX4_init_0 14 rfl rfl)
theorem dX4_init_16 : decode cX4_init 16 = .ok (.newarray .int, 2) := dk_188_10 (dk_at dksX4_init_0 16 rfl rfl)
theorem dX4_init_18 : decode cX4_init 18 = .ok (.putfield 13, 3) := dk_181 0 13 (dk_at dksX4_init_0 18 rfl rfl)
theorem dX4_init_21 : decode cX4_init 21 = .ok (.aload_n 0, 1) := dk_42 (dk_at dksX4_init_0 21 rfl rfl)
theorem dX4_init_22 : decode cX4_init 22 = .ok (.iconst 2, 1) := dk_5 (dk_at dksX4_init_0 22 rfl rfl)
theorem dX4_init_23 : decode cX4_init 23 = .ok (.newarray .boolean, 2) := dk_188_4 (dk_at dksX4_init_1 0 rfl rfl)
theorem dX4_init_25 : decode cX4_init 25 = .ok (.putfield 16, 3) := dk_181 0 16 (dk_at dksX4_init_1 2 rfl rfl)
theorem dX4_init_28 : decode cX4_init 28 = .ok (.aload_n 0, 1) := dk_42 (dk_at dksX4_init_1 5 rfl rfl)
theorem dX4_init_29 : decode cX4_init 29 = .ok (.bipush 32, 2) := dk_16 32 (dk_at dksX4_init_1 6 rfl rfl)
theorem dX4_init_31 : decode cX4_init 31 = .ok (.newarray .int, 2) := dk_188_10 (dk_at dksX4_init_1 8 rfl rfl)
theorem dX4_init_33 : decode cX4_init 33 = .ok (.putfield 20, 3) := dk_181 0 20 (dk_at dksX4_init_1 10 rfl rfl)
theorem dX4_init_36 : decode cX4_init 36 = .ok (.aload_n 0, 1) := dk_42 (dk_at dksX4_init_1 13 rfl rfl)
theorem dX4_init_37 : decode cX4_init 37 = .ok (.bipush 75, 2) := dk_16 75 (dk_at dksX4_init_1 14 rfl rfl)
theorem dX4_init_39 : decode cX4_init 39 = .ok (.newarray .int, 2) := dk_188_10 (dk_at dksX4_init_1 16 rfl rfl)
theorem dX4_init_41 : decode cX4_init 41 = .ok (.putfield 23, 3) := dk_181 0 23 (dk_at dksX4_init_1 18 rfl rfl)
theorem dX4_init_44 : decode cX4_init 44 = .ok (.aload_n 0, 1) := dk_42 (dk_at dksX4_init_1 21 rfl rfl)
theorem dX4_init_45 : decode cX4_init 45 = .ok (.bipush 32, 2) := dk_16 32 (dk_at dksX4_init_1 22 rfl rfl)
theorem dX4_init_47 : decode cX4_init 47 = .ok (.newarray .int, 2) := dk_188_10 (dk_at dksX4_init_2 0 rfl rfl)
theorem dX4_init_49 : decode cX4_init 49 = .ok (.putfield 26, 3) := dk_181 0 26 (dk_at dksX4_init_2 2 rfl rfl)
theorem dX4_init_52 : decode cX4_init 52 = .ok (.aload_n 0, 1) := dk_42 (dk_at dksX4_init_2 5 rfl rfl)
theorem dX4_init_53 : decode cX4_init 53 = .ok (.sipush 160, 3) := dk_17 0 160 (dk_at dksX4_init_2 6 rfl rfl)
theorem dX4_init_56 : decode cX4_init 56 = .ok (.newarray .int, 2) := dk_188_10 (dk_at dksX4_init_2 9 rfl rfl)
theorem dX4_init_58 : decode cX4_init 58 = .ok (.putfield 29, 3) := dk_181 0 29 (dk_at dksX4_init_2 11 rfl rfl)
theorem dX4_init_61 : decode cX4_init 61 = .ok (.aload_n 0, 1) := dk_42 (dk_at dksX4_init_2 14 rfl rfl)
theorem dX4_init_62 : decode cX4_init 62 = .ok (.iconst 4, 1) := dk_7 (dk_at dksX4_init_2 15 rfl rfl)
theorem dX4_init_63 : decode cX4_init 63 = .ok (.newarray .int, 2) := dk_188_10 (dk_at dksX4_init_2 16 rfl rfl)
theorem dX4_init_65 : decode cX4_init 65 = .ok (.putfield 32, 3) := dk_181 0 32 (dk_at dksX4_init_2 18 rfl rfl)
theorem dX4_init_68 : decode cX4_init 68 = .ok (.aload_n 0, 1) := dk_42 (dk_at dksX4_init_2 21 rfl rfl)
theorem dX4_init_69 : decode cX4_init 69 = .ok (.sipush 186, 3) := dk_17 0 186 (dk_at dksX4_init_3 0 rfl rfl)
theorem dX4_init_72 : decode cX4_init 72 = .ok (.newarray .int, 2) := dk_188_10 (dk_at dksX4_init_3 3 rfl rfl)
theorem dX4_init_74 : decode cX4_init 74 = .ok (.putfield 35, 3) := dk_181 0 35 (dk_at dksX4_init_3 5 rfl rfl)
theorem dX4_init_77 : decode cX4_init 77 = .ok (.aload_n 0, 1) := dk_42 (dk_at dksX4_init_3 8 rfl rfl)
theorem dX4_init_78 : decode cX4_init 78 = .ok (.iconst 4, 1) := dk_7 (dk_at dksX4_init_3 9 rfl rfl)
theorem dX4_init_79 : decode cX4_init 79 = .ok (.newarray .int, 2) := dk_188_10 (dk_at dksX4_init_3 10 rfl rfl)
theorem dX4_init_81 : decode cX4_init 81 = .ok (.putfield 38, 3) := dk_181 0 38 (dk_at dksX4_init_3 12 rfl rfl)
theorem dX4_init_84 : decode cX4_init 84 = .ok (.aload_n 0, 1) := dk_42 (dk_at dksX4_init_3 15 rfl rfl)
theorem dX4_init_85 : decode cX4_init 85 = .ok (.iconst 4, 1) := dk_7 (dk_at dksX4_init_3 16 rfl rfl)
theorem dX4_init_86 : decode cX4_init 86 = .ok (.newarray .int, 2) := dk_188_10 (dk_at dksX4_init_3 17 rfl rfl)
theorem dX4_init_88 : decode cX4_init 88 = .ok (.putfield 41, 3) := dk_181 0 41 (dk_at dksX4_init_3 19 rfl rfl)
theorem dX4_init_91 : decode cX4_init 91 = .ok (.aload_n 0, 1) := dk_42 (dk_at dksX4_init_3 22 rfl rfl)
theorem dX4_init_92 : decode cX4_init 92 = .ok (.sipush 160, 3) := dk_17 0 160 (dk_at dksX4_init_4 0 rfl rfl)
theorem dX4_init_95 : decode cX4_init 95 = .ok (.newarray .int, 2) := dk_188_10 (dk_at dksX4_init_4 3 rfl rfl)
theorem dX4_init_97 : decode cX4_init 97 = .ok (.putfield 44, 3) := dk_181 0 44 (dk_at dksX4_init_4 5 rfl rfl)
theorem dX4_init_100 : decode cX4_init 100 = .ok (.aload_n 0, 1) := dk_42 (dk_at dksX4_init_4 8 rfl rfl)
theorem dX4_init_101 : decode cX4_init 101 = .ok (.bipush 75, 2) := dk_16 75 (dk_at dksX4_init_4 9 rfl rfl)
theorem dX4_init_103 : decode cX4_init 103 = .ok (.newarray .int, 2) := dk_188_10 (dk_at dksX4_init_4 11 rfl rfl)
theorem dX4_init_105 : decode cX4_init 105 = .ok (.putfield 47, 3) := dk_181 0 47 (dk_at dksX4_init_4 13 rfl rfl)
theorem dX4_init_108 : decode cX4_init 108 = .ok (.iconst 0, 1) := dk_3 (dk_at dksX4_init_4 16 rfl rfl)
theorem dX4_init_109 : decode cX4_init 109 = .ok (.istore_n 1, 1) := dk_60 (dk_at dksX4_init_4 17 rfl rfl)
theorem dX4_init_110 : decode cX4_init 110 = .ok (.iload_n 1, 1) := dk_27 (dk_at dksX4_init_4 18 rfl rfl)
theorem dX4_init_111 : decode cX4_init 111 = .ok (.iconst 4, 1) := dk_7 (dk_at dksX4_init_4 19 rfl rfl)
theorem dX4_init_112 : decode cX4_init 112 = .ok (.if_icmp .ge 17, 3) := dk_162 0 17 (dk_at dksX4_init_4 20 rfl rfl)
theorem dX4_init_115 : decode cX4_init 115 = .ok (.aload_n 0, 1) := dk_42 (dk_at dksX4_init_4 23 rfl rfl)
theorem dX4_init_116 : decode cX4_init 116 = .ok (.getfield 38, 3) := dk_180 0 38 (dk_at dksX4_init_5 0 rfl rfl)
theorem dX4_init_119 : decode cX4_init 119 = .ok (.iload_n 1, 1) := dk_27 (dk_at dksX4_init_5 3 rfl rfl)
theorem dX4_init_120 : decode cX4_init 120 = .ok (.bipush (-4), 2) := dk_16 252 (dk_at dksX4_init_5 4 rfl rfl)
theorem dX4_init_122 : decode cX4_init 122 = .ok (.iastore, 1) := dk_79 (dk_at dksX4_init_5 6 rfl rfl)
theorem dX4_init_123 : decode cX4_init 123 = .ok (.iinc 1 1, 3) := dk_132 1 1 (dk_at dksX4_init_5 7 rfl rfl)
theorem dX4_init_126 : decode cX4_init 126 = .ok (.goto (-16), 3) := dk_167 255 240 (dk_at dksX4_init_5 10 rfl rfl)
theorem dX4_init_129 : decode cX4_init 129 = .ok (.aload_n 0, 1) := dk_42 (dk_at dksX4_init_5 13 rfl rfl)
theorem dX4_init_130 : decode cX4_init 130 = .ok (.invokevirtual 50, 3) := dk_182 0 50 (dk_at dksX4_init_5 14 rfl rfl)
theorem dX4_init_133 : decode cX4_init 133 = .ok (.aload_n 0, 1) := dk_42 (dk_at dksX4_init_5 17 rfl rfl)
theorem dX4_init_134 : decode cX4_init 134 = .ok (.invokevirtual 53, 3) := dk_182 0 53 (dk_at dksX4_init_5 18 rfl rfl)
theorem dX4_init_137 : decode cX4_init 137 = .ok (.return_, 1) := dk_177 (dk_at dksX4_init_5 21 rfl rfl)
abbrev cX4_firstDraft : ByteArray := prog_13_method_5_code
def yX4_firstDraft : MethodName := ⟨RX4, "firstDraft", "()V"⟩
def dkwX4_firstDraft_1 : List UInt8 := [181, 0, 56, 42, 3, 181, 0, 60, 42, 3, 181, 0, 63, 42, 16, 252, 181, 0, 66, 177]
abbrev dktX4_firstDraft_1 : List UInt8 := dkwX4_firstDraft_1 ++ []
def dkwX4_firstDraft_0 : List UInt8 := [3, 60, 27, 16, 75, 162, 0, 16, 42, 180, 0, 23, 27, 3, 79, 132, 1, 1, 167, 255, 240, 42, 3]
abbrev dktX4_firstDraft_0 : List UInt8 := dkwX4_firstDraft_0 ++ dktX4_firstDraft_1
theorem dksX4_firstDraft_0 : cX4_firstDraft.data.toList.drop 0 = dktX4_firstDraft_0 := by decide +kernel
theorem dksX4_firstDraft_1 : cX4_firstDraft.data.toList.drop 23 = dktX4_firstDraft_1 := dk_seg dksX4_firstDraft_0 23 rfl rfl
theorem dX4_firstDraft_0 : decode cX4_firstDraft 0 = .ok (.iconst 0, 1) := dk_3 (dk_at dksX4_firstDraft_0 0 rfl rfl)
theorem dX4_firstDraft_1 : decode cX4_firstDraft 1 = .ok (.istore_n 1, 1) := dk_60 (dk_at dksX4_firstDraft_0 1 rfl rfl)
theorem dX4_firstDraft_2 : decode cX4_firstDraft 2 = .ok (.iload_n 1, 1) := dk_27 (dk_at dksX4_firstDraft_0 2 rfl rfl)
theorem dX4_firstDraft_3 : decode cX4_firstDraft 3 = .ok (.bipush 75, 2) := dk_16 75 (dk_at dksX4_firstDraft_0 3 rfl rfl)
theorem dX4_firstDraft_5 : decode cX4_firstDraft 5 = .ok (.if_icmp .ge 16, 3) := dk_162 0 16 (dk_at dksX4_firstDraft_0 5 rfl rfl)
theorem dX4_firstDraft_8 : decode cX4_firstDraft 8 = .ok (.aload_n 0, 1) := dk_42 (dk_at dksX4_firstDraft_0 8 rfl rfl)
theorem dX4_firstDraft_9 : decode cX4_firstDraft 9 = .ok (.getfield 23, 3) := dk_180 0 23 (dk_at dksX4_firstDraft_0 9 rfl rfl)
theorem dX4_firstDraft_12 : decode cX4_firstDraft 12 = .ok (.iload_n 1, 1) := dk_27 (dk_at dksX4_firstDraft_0 12 rfl rfl)
theorem dX4_firstDraft_13 : decode cX4_firstDraft 13 = .ok (.iconst 0, 1) := dk_3 (dk_at dksX4_firstDraft_0 13 rfl rfl)
theorem dX4_firstDraft_14 : decode cX4_firstDraft 14 = .ok (.iastore, 1) := dk_79 (dk_at dksX4_firstDraft_0 14 rfl rfl)
theorem dX4_firstDraft_15 : decode cX4_firstDraft 15 = .ok (.iinc 1 1, 3) := dk_132 1 1 (dk_at dksX4_firstDraft_0 15 rfl rfl)
theorem dX4_firstDraft_18 : decode cX4_firstDraft 18 = .ok (.goto (-16), 3) := dk_167 255 240 (dk_at dksX4_firstDraft_0 18 rfl rfl)
theorem dX4_firstDraft_21 : decode cX4_firstDraft 21 = .ok (.aload_n 0, 1) := dk_42 (dk_at dksX4_firstDraft_0 21 rfl rfl)
theorem dX4_firstDraft_22 : decode cX4_firstDraft 22 = .ok (.iconst 0, 1) := dk_3 (dk_at dksX4_firstDraft_0 22 rfl rfl)
theorem dX4_firstDraft_23 : decode cX4_firstDraft 23 = .ok (.putfield 56, 3) := dk_181 0 56 (dk_at dksX4_firstDraft_1 0 rfl rfl)
theorem dX4_firstDraft_26 : decode cX4_firstDraft 26 = .ok (.aload_n 0, 1) := dk_42 (dk_at dksX4_firstDraft_1 3 rfl rfl)
theorem dX4_firstDraft_27 : decode cX4_firstDraft 27 = .ok (.iconst 0, 1) := dk_3 (dk_at dksX4_firstDraft_1 4 rfl rfl)
theorem dX4_firstDraft_28 : decode cX4_firstDraft 28 = .ok (.putfield 60, 3) := dk_181 0 60 (dk_at dksX4_firstDraft_1 5 rfl rfl)
theorem dX4_firstDraft_31 : decode cX4_firstDraft 31 = .ok (.aload_n 0, 1) := dk_42 (dk_at dksX4_firstDraft_1 8 rfl rfl)
theorem dX4_firstDraft_32 : decode cX4_firstDraft 32 = .ok (.iconst 0, 1) := dk_3 (dk_at dksX4_firstDraft_1 9 rfl rfl)
theorem dX4_firstDraft_33 : decode cX4_firstDraft 33 = .ok (.putfield 63, 3) := dk_181 0 63 (dk_at dksX4_firstDraft_1 10 rfl rfl)
theorem dX4_firstDraft_36 : decode cX4_firstDraft 36 = .ok (.aload_n 0, 1) := dk_42 (dk_at dksX4_firstDraft_1 13 rfl rfl)
theorem dX4_firstDraft_37 : decode cX4_firstDraft 37 = .ok (.bipush (-4), 2) := dk_16 252 (dk_at dksX4_firstDraft_1 14 rfl rfl)
theorem dX4_firstDraft_39 : decode cX4_firstDraft 39 = .ok (.putfield 66, 3) := dk_181 0 66 (dk_at dksX4_firstDraft_1 16 rfl rfl)
theorem dX4_firstDraft_42 : decode cX4_firstDraft 42 = .ok (.return_, 1) := dk_177 (dk_at dksX4_firstDraft_1 19 rfl rfl)
abbrev cX4_keepDraft : ByteArray := prog_13_method_6_code
def yX4_keepDraft : MethodName := ⟨RX4, "keepDraft", "()V"⟩
def dkwX4_keepDraft_4 : List UInt8 := [3, 84, 177]
abbrev dktX4_keepDraft_4 : List UInt8 := dkwX4_keepDraft_4 ++ []
def dkwX4_keepDraft_3 : List UInt8 := [180, 0, 26, 27, 46, 79, 132, 1, 1, 167, 255, 230, 42, 180, 0, 16, 3, 3, 84, 42, 180, 0, 16, 4]
abbrev dktX4_keepDraft_3 : List UInt8 := dkwX4_keepDraft_3 ++ dktX4_keepDraft_4
def dkwX4_keepDraft_2 : List UInt8 := [181, 0, 75, 3, 60, 27, 16, 8, 42, 180, 0, 75, 104, 162, 0, 21, 42, 180, 0, 20, 27, 42]
abbrev dktX4_keepDraft_2 : List UInt8 := dkwX4_keepDraft_2 ++ dktX4_keepDraft_3
def dkwX4_keepDraft_1 : List UInt8 := [167, 255, 235, 42, 42, 180, 0, 56, 181, 0, 69, 42, 42, 180, 0, 60, 181, 0, 72, 42, 42, 180, 0, 63]
abbrev dktX4_keepDraft_1 : List UInt8 := dkwX4_keepDraft_1 ++ dktX4_keepDraft_2
def dkwX4_keepDraft_0 : List UInt8 := [3, 60, 27, 16, 75, 162, 0, 21, 42, 180, 0, 7, 27, 42, 180, 0, 23, 27, 46, 79, 132, 1, 1]
abbrev dktX4_keepDraft_0 : List UInt8 := dkwX4_keepDraft_0 ++ dktX4_keepDraft_1
theorem dksX4_keepDraft_0 : cX4_keepDraft.data.toList.drop 0 = dktX4_keepDraft_0 := by decide +kernel
theorem dksX4_keepDraft_1 : cX4_keepDraft.data.toList.drop 23 = dktX4_keepDraft_1 := dk_seg dksX4_keepDraft_0 23 rfl rfl
theorem dksX4_keepDraft_2 : cX4_keepDraft.data.toList.drop 47 = dktX4_keepDraft_2 := dk_seg dksX4_keepDraft_1 24 rfl rfl
theorem dksX4_keepDraft_3 : cX4_keepDraft.data.toList.drop 69 = dktX4_keepDraft_3 := dk_seg dksX4_keepDraft_2 22 rfl rfl
theorem dksX4_keepDraft_4 : cX4_keepDraft.data.toList.drop 93 = dktX4_keepDraft_4 := dk_seg dksX4_keepDraft_3 24 rfl rfl
theorem dX4_keepDraft_0 : decode cX4_keepDraft 0 = .ok (.iconst 0, 1) := dk_3 (dk_at dksX4_keepDraft_0 0 rfl rfl)
theorem dX4_keepDraft_1 : decode cX4_keepDraft 1 = .ok (.istore_n 1, 1) := dk_60 (dk_at dksX4_keepDraft_0 1 rfl rfl)
theorem dX4_keepDraft_2 : decode cX4_keepDraft 2 = .ok (.iload_n 1, 1) := dk_27 (dk_at dksX4_keepDraft_0 2 rfl rfl)
theorem dX4_keepDraft_3 : decode cX4_keepDraft 3 = .ok (.bipush 75, 2) := dk_16 75 (dk_at dksX4_keepDraft_0 3 rfl rfl)
theorem dX4_keepDraft_5 : decode cX4_keepDraft 5 = .ok (.if_icmp .ge 21, 3) := dk_162 0 21 (dk_at dksX4_keepDraft_0 5 rfl rfl)
theorem dX4_keepDraft_8 : decode cX4_keepDraft 8 = .ok (.aload_n 0, 1) := dk_42 (dk_at dksX4_keepDraft_0 8 rfl rfl)
theorem dX4_keepDraft_9 : decode cX4_keepDraft 9 = .ok (.getfield 7, 3) := dk_180 0 7 (dk_at dksX4_keepDraft_0 9 rfl rfl)
theorem dX4_keepDraft_12 : decode cX4_keepDraft 12 = .ok (.iload_n 1, 1) := dk_27 (dk_at dksX4_keepDraft_0 12 rfl rfl)
theorem dX4_keepDraft_13 : decode cX4_keepDraft 13 = .ok (.aload_n 0, 1) := dk_42 (dk_at dksX4_keepDraft_0 13 rfl rfl)
theorem dX4_keepDraft_14 : decode cX4_keepDraft 14 = .ok (.getfield 23, 3) := dk_180 0 23 (dk_at dksX4_keepDraft_0 14 rfl rfl)
theorem dX4_keepDraft_17 : decode cX4_keepDraft 17 = .ok (.iload_n 1, 1) := dk_27 (dk_at dksX4_keepDraft_0 17 rfl rfl)
theorem dX4_keepDraft_18 : decode cX4_keepDraft 18 = .ok (.iaload, 1) := dk_46 (dk_at dksX4_keepDraft_0 18 rfl rfl)
theorem dX4_keepDraft_19 : decode cX4_keepDraft 19 = .ok (.iastore, 1) := dk_79 (dk_at dksX4_keepDraft_0 19 rfl rfl)
theorem dX4_keepDraft_20 : decode cX4_keepDraft 20 = .ok (.iinc 1 1, 3) := dk_132 1 1 (dk_at dksX4_keepDraft_0 20 rfl rfl)
theorem dX4_keepDraft_23 : decode cX4_keepDraft 23 = .ok (.goto (-21), 3) := dk_167 255 235 (dk_at dksX4_keepDraft_1 0 rfl rfl)
theorem dX4_keepDraft_26 : decode cX4_keepDraft 26 = .ok (.aload_n 0, 1) := dk_42 (dk_at dksX4_keepDraft_1 3 rfl rfl)
theorem dX4_keepDraft_27 : decode cX4_keepDraft 27 = .ok (.aload_n 0, 1) := dk_42 (dk_at dksX4_keepDraft_1 4 rfl rfl)
theorem dX4_keepDraft_28 : decode cX4_keepDraft 28 = .ok (.getfield 56, 3) := dk_180 0 56 (dk_at dksX4_keepDraft_1 5 rfl rfl)
theorem dX4_keepDraft_31 : decode cX4_keepDraft 31 = .ok (.putfield 69, 3) := dk_181 0 69 (dk_at dksX4_keepDraft_1 8 rfl rfl)
theorem dX4_keepDraft_34 : decode cX4_keepDraft 34 = .ok (.aload_n 0, 1) := dk_42 (dk_at dksX4_keepDraft_1 11 rfl rfl)
theorem dX4_keepDraft_35 : decode cX4_keepDraft 35 = .ok (.aload_n 0, 1) := dk_42 (dk_at dksX4_keepDraft_1 12 rfl rfl)
theorem dX4_keepDraft_36 : decode cX4_keepDraft 36 = .ok (.getfield 60, 3) := dk_180 0 60 (dk_at dksX4_keepDraft_1 13 rfl rfl)
theorem dX4_keepDraft_39 : decode cX4_keepDraft 39 = .ok (.putfield 72, 3) := dk_181 0 72 (dk_at dksX4_keepDraft_1 16 rfl rfl)
theorem dX4_keepDraft_42 : decode cX4_keepDraft 42 = .ok (.aload_n 0, 1) := dk_42 (dk_at dksX4_keepDraft_1 19 rfl rfl)
theorem dX4_keepDraft_43 : decode cX4_keepDraft 43 = .ok (.aload_n 0, 1) := dk_42 (dk_at dksX4_keepDraft_1 20 rfl rfl)
theorem dX4_keepDraft_44 : decode cX4_keepDraft 44 = .ok (.getfield 63, 3) := dk_180 0 63 (dk_at dksX4_keepDraft_1 21 rfl rfl)
theorem dX4_keepDraft_47 : decode cX4_keepDraft 47 = .ok (.putfield 75, 3) := dk_181 0 75 (dk_at dksX4_keepDraft_2 0 rfl rfl)
theorem dX4_keepDraft_50 : decode cX4_keepDraft 50 = .ok (.iconst 0, 1) := dk_3 (dk_at dksX4_keepDraft_2 3 rfl rfl)
theorem dX4_keepDraft_51 : decode cX4_keepDraft 51 = .ok (.istore_n 1, 1) := dk_60 (dk_at dksX4_keepDraft_2 4 rfl rfl)
theorem dX4_keepDraft_52 : decode cX4_keepDraft 52 = .ok (.iload_n 1, 1) := dk_27 (dk_at dksX4_keepDraft_2 5 rfl rfl)
theorem dX4_keepDraft_53 : decode cX4_keepDraft 53 = .ok (.bipush 8, 2) := dk_16 8 (dk_at dksX4_keepDraft_2 6 rfl rfl)
theorem dX4_keepDraft_55 : decode cX4_keepDraft 55 = .ok (.aload_n 0, 1) := dk_42 (dk_at dksX4_keepDraft_2 8 rfl rfl)
theorem dX4_keepDraft_56 : decode cX4_keepDraft 56 = .ok (.getfield 75, 3) := dk_180 0 75 (dk_at dksX4_keepDraft_2 9 rfl rfl)
theorem dX4_keepDraft_59 : decode cX4_keepDraft 59 = .ok (.imul, 1) := dk_104 (dk_at dksX4_keepDraft_2 12 rfl rfl)
theorem dX4_keepDraft_60 : decode cX4_keepDraft 60 = .ok (.if_icmp .ge 21, 3) := dk_162 0 21 (dk_at dksX4_keepDraft_2 13 rfl rfl)
theorem dX4_keepDraft_63 : decode cX4_keepDraft 63 = .ok (.aload_n 0, 1) := dk_42 (dk_at dksX4_keepDraft_2 16 rfl rfl)
theorem dX4_keepDraft_64 : decode cX4_keepDraft 64 = .ok (.getfield 20, 3) := dk_180 0 20 (dk_at dksX4_keepDraft_2 17 rfl rfl)
theorem dX4_keepDraft_67 : decode cX4_keepDraft 67 = .ok (.iload_n 1, 1) := dk_27 (dk_at dksX4_keepDraft_2 20 rfl rfl)
theorem dX4_keepDraft_68 : decode cX4_keepDraft 68 = .ok (.aload_n 0, 1) := dk_42 (dk_at dksX4_keepDraft_2 21 rfl rfl)
theorem dX4_keepDraft_69 : decode cX4_keepDraft 69 = .ok (.getfield 26, 3) := dk_180 0 26 (dk_at dksX4_keepDraft_3 0 rfl rfl)
theorem dX4_keepDraft_72 : decode cX4_keepDraft 72 = .ok (.iload_n 1, 1) := dk_27 (dk_at dksX4_keepDraft_3 3 rfl rfl)
theorem dX4_keepDraft_73 : decode cX4_keepDraft 73 = .ok (.iaload, 1) := dk_46 (dk_at dksX4_keepDraft_3 4 rfl rfl)
theorem dX4_keepDraft_74 : decode cX4_keepDraft 74 = .ok (.iastore, 1) := dk_79 (dk_at dksX4_keepDraft_3 5 rfl rfl)
theorem dX4_keepDraft_75 : decode cX4_keepDraft 75 = .ok (.iinc 1 1, 3) := dk_132 1 1 (dk_at dksX4_keepDraft_3 6 rfl rfl)
theorem dX4_keepDraft_78 : decode cX4_keepDraft 78 = .ok (.goto (-26), 3) := dk_167 255 230 (dk_at dksX4_keepDraft_3 9 rfl rfl)
theorem dX4_keepDraft_81 : decode cX4_keepDraft 81 = .ok (.aload_n 0, 1) := dk_42 (dk_at dksX4_keepDraft_3 12 rfl rfl)
theorem dX4_keepDraft_82 : decode cX4_keepDraft 82 = .ok (.getfield 16, 3) := dk_180 0 16 (dk_at dksX4_keepDraft_3 13 rfl rfl)
theorem dX4_keepDraft_85 : decode cX4_keepDraft 85 = .ok (.iconst 0, 1) := dk_3 (dk_at dksX4_keepDraft_3 16 rfl rfl)
theorem dX4_keepDraft_86 : decode cX4_keepDraft 86 = .ok (.iconst 0, 1) := dk_3 (dk_at dksX4_keepDraft_3 17 rfl rfl)
theorem dX4_keepDraft_87 : decode cX4_keepDraft 87 = .ok (.bastore, 1) := dk_84 (dk_at dksX4_keepDraft_3 18 rfl rfl)
theorem dX4_keepDraft_88 : decode cX4_keepDraft 88 = .ok (.aload_n 0, 1) := dk_42 (dk_at dksX4_keepDraft_3 19 rfl rfl)
theorem dX4_keepDraft_89 : decode cX4_keepDraft 89 = .ok (.getfield 16, 3) := dk_180 0 16 (dk_at dksX4_keepDraft_3 20 rfl rfl)
theorem dX4_keepDraft_92 : decode cX4_keepDraft 92 = .ok (.iconst 1, 1) := dk_4 (dk_at dksX4_keepDraft_3 23 rfl rfl)
theorem dX4_keepDraft_93 : decode cX4_keepDraft 93 = .ok (.iconst 0, 1) := dk_3 (dk_at dksX4_keepDraft_4 0 rfl rfl)
theorem dX4_keepDraft_94 : decode cX4_keepDraft 94 = .ok (.bastore, 1) := dk_84 (dk_at dksX4_keepDraft_4 1 rfl rfl)
theorem dX4_keepDraft_95 : decode cX4_keepDraft 95 = .ok (.return_, 1) := dk_177 (dk_at dksX4_keepDraft_4 2 rfl rfl)
abbrev cX4_feed : ByteArray := prog_13_method_7_code
def yX4_feed : MethodName := ⟨RX4, "feed", "(I)I"⟩
def dkwX4_feed_2 : List UInt8 := [180, 0, 84, 172]
abbrev dktX4_feed_2 : List UInt8 := dkwX4_feed_2 ++ []
def dkwX4_feed_1 : List UInt8 := [16, 253, 172, 42, 180, 0, 29, 42, 180, 0, 84, 27, 79, 42, 89, 180, 0, 84, 4, 96, 181, 0, 84, 42]
abbrev dktX4_feed_1 : List UInt8 := dkwX4_feed_1 ++ dktX4_feed_2
def dkwX4_feed_0 : List UInt8 := [27, 133, 9, 20, 0, 78, 184, 0, 80, 154, 0, 5, 2, 172, 42, 180, 0, 84, 17, 0, 160, 160, 0, 6]
abbrev dktX4_feed_0 : List UInt8 := dkwX4_feed_0 ++ dktX4_feed_1
theorem dksX4_feed_0 : cX4_feed.data.toList.drop 0 = dktX4_feed_0 := by decide +kernel
theorem dksX4_feed_1 : cX4_feed.data.toList.drop 24 = dktX4_feed_1 := dk_seg dksX4_feed_0 24 rfl rfl
theorem dksX4_feed_2 : cX4_feed.data.toList.drop 48 = dktX4_feed_2 := dk_seg dksX4_feed_1 24 rfl rfl
theorem dX4_feed_0 : decode cX4_feed 0 = .ok (.iload_n 1, 1) := dk_27 (dk_at dksX4_feed_0 0 rfl rfl)
theorem dX4_feed_1 : decode cX4_feed 1 = .ok (.i2l, 1) := dk_133 (dk_at dksX4_feed_0 1 rfl rfl)
theorem dX4_feed_2 : decode cX4_feed 2 = .ok (.lconst 0, 1) := dk_9 (dk_at dksX4_feed_0 2 rfl rfl)
theorem dX4_feed_3 : decode cX4_feed 3 = .ok (.ldc2_w 78, 3) := dk_20 0 78 (dk_at dksX4_feed_0 3 rfl rfl)
theorem dX4_feed_6 : decode cX4_feed 6 = .ok (.invokestatic 80, 3) := dk_184 0 80 (dk_at dksX4_feed_0 6 rfl rfl)
theorem dX4_feed_9 : decode cX4_feed 9 = .ok (.ifCond .ne 5, 3) := dk_154 0 5 (dk_at dksX4_feed_0 9 rfl rfl)
theorem dX4_feed_12 : decode cX4_feed 12 = .ok (.iconst (-1), 1) := dk_2 (dk_at dksX4_feed_0 12 rfl rfl)
theorem dX4_feed_13 : decode cX4_feed 13 = .ok (.ireturn, 1) := dk_172 (dk_at dksX4_feed_0 13 rfl rfl)
theorem dX4_feed_14 : decode cX4_feed 14 = .ok (.aload_n 0, 1) := dk_42 (dk_at dksX4_feed_0 14 rfl rfl)
theorem dX4_feed_15 : decode cX4_feed 15 = .ok (.getfield 84, 3) := dk_180 0 84 (dk_at dksX4_feed_0 15 rfl rfl)
theorem dX4_feed_18 : decode cX4_feed 18 = .ok (.sipush 160, 3) := dk_17 0 160 (dk_at dksX4_feed_0 18 rfl rfl)
theorem dX4_feed_21 : decode cX4_feed 21 = .ok (.if_icmp .ne 6, 3) := dk_160 0 6 (dk_at dksX4_feed_0 21 rfl rfl)
theorem dX4_feed_24 : decode cX4_feed 24 = .ok (.bipush (-3), 2) := dk_16 253 (dk_at dksX4_feed_1 0 rfl rfl)
theorem dX4_feed_26 : decode cX4_feed 26 = .ok (.ireturn, 1) := dk_172 (dk_at dksX4_feed_1 2 rfl rfl)
theorem dX4_feed_27 : decode cX4_feed 27 = .ok (.aload_n 0, 1) := dk_42 (dk_at dksX4_feed_1 3 rfl rfl)
theorem dX4_feed_28 : decode cX4_feed 28 = .ok (.getfield 29, 3) := dk_180 0 29 (dk_at dksX4_feed_1 4 rfl rfl)
theorem dX4_feed_31 : decode cX4_feed 31 = .ok (.aload_n 0, 1) := dk_42 (dk_at dksX4_feed_1 7 rfl rfl)
theorem dX4_feed_32 : decode cX4_feed 32 = .ok (.getfield 84, 3) := dk_180 0 84 (dk_at dksX4_feed_1 8 rfl rfl)
theorem dX4_feed_35 : decode cX4_feed 35 = .ok (.iload_n 1, 1) := dk_27 (dk_at dksX4_feed_1 11 rfl rfl)
theorem dX4_feed_36 : decode cX4_feed 36 = .ok (.iastore, 1) := dk_79 (dk_at dksX4_feed_1 12 rfl rfl)
theorem dX4_feed_37 : decode cX4_feed 37 = .ok (.aload_n 0, 1) := dk_42 (dk_at dksX4_feed_1 13 rfl rfl)
theorem dX4_feed_38 : decode cX4_feed 38 = .ok (.dup, 1) := dk_89 (dk_at dksX4_feed_1 14 rfl rfl)
theorem dX4_feed_39 : decode cX4_feed 39 = .ok (.getfield 84, 3) := dk_180 0 84 (dk_at dksX4_feed_1 15 rfl rfl)
theorem dX4_feed_42 : decode cX4_feed 42 = .ok (.iconst 1, 1) := dk_4 (dk_at dksX4_feed_1 18 rfl rfl)
theorem dX4_feed_43 : decode cX4_feed 43 = .ok (.iadd, 1) := dk_96 (dk_at dksX4_feed_1 19 rfl rfl)
theorem dX4_feed_44 : decode cX4_feed 44 = .ok (.putfield 84, 3) := dk_181 0 84 (dk_at dksX4_feed_1 20 rfl rfl)
theorem dX4_feed_47 : decode cX4_feed 47 = .ok (.aload_n 0, 1) := dk_42 (dk_at dksX4_feed_1 23 rfl rfl)
theorem dX4_feed_48 : decode cX4_feed 48 = .ok (.getfield 84, 3) := dk_180 0 84 (dk_at dksX4_feed_2 0 rfl rfl)
theorem dX4_feed_51 : decode cX4_feed 51 = .ok (.ireturn, 1) := dk_172 (dk_at dksX4_feed_2 3 rfl rfl)
abbrev cX4_in : ByteArray := prog_13_method_3_code
def yX4_in : MethodName := ⟨RX4, "in", "(JJJ)Z"⟩
def dkwX4_in_0 : List UInt8 := [30, 32, 148, 155, 0, 14, 30, 22, 4, 148, 157, 0, 7, 4, 167, 0, 4, 3, 172]
abbrev dktX4_in_0 : List UInt8 := dkwX4_in_0 ++ []
theorem dksX4_in_0 : cX4_in.data.toList.drop 0 = dktX4_in_0 := by decide +kernel
theorem dX4_in_0 : decode cX4_in 0 = .ok (.lload_n 0, 1) := dk_30 (dk_at dksX4_in_0 0 rfl rfl)
theorem dX4_in_1 : decode cX4_in 1 = .ok (.lload_n 2, 1) := dk_32 (dk_at dksX4_in_0 1 rfl rfl)
theorem dX4_in_2 : decode cX4_in 2 = .ok (.lcmp, 1) := dk_148 (dk_at dksX4_in_0 2 rfl rfl)
theorem dX4_in_3 : decode cX4_in 3 = .ok (.ifCond .lt 14, 3) := dk_155 0 14 (dk_at dksX4_in_0 3 rfl rfl)
theorem dX4_in_6 : decode cX4_in 6 = .ok (.lload_n 0, 1) := dk_30 (dk_at dksX4_in_0 6 rfl rfl)
theorem dX4_in_7 : decode cX4_in 7 = .ok (.lload 4, 2) := dk_22 4 (dk_at dksX4_in_0 7 rfl rfl)
theorem dX4_in_9 : decode cX4_in 9 = .ok (.lcmp, 1) := dk_148 (dk_at dksX4_in_0 9 rfl rfl)
theorem dX4_in_10 : decode cX4_in 10 = .ok (.ifCond .gt 7, 3) := dk_157 0 7 (dk_at dksX4_in_0 10 rfl rfl)
theorem dX4_in_13 : decode cX4_in 13 = .ok (.iconst 1, 1) := dk_4 (dk_at dksX4_in_0 13 rfl rfl)
theorem dX4_in_14 : decode cX4_in 14 = .ok (.goto 4, 3) := dk_167 0 4 (dk_at dksX4_in_0 14 rfl rfl)
theorem dX4_in_17 : decode cX4_in 17 = .ok (.iconst 0, 1) := dk_3 (dk_at dksX4_in_0 17 rfl rfl)
theorem dX4_in_18 : decode cX4_in 18 = .ok (.ireturn, 1) := dk_172 (dk_at dksX4_in_0 18 rfl rfl)
abbrev cX4_end : ByteArray := prog_13_method_8_code
def yX4_end : MethodName := ⟨RX4, "end", "(I)I"⟩
def dkwX4_end_1 : List UInt8 := [181, 0, 84, 28, 172]
abbrev dktX4_end_1 : List UInt8 := dkwX4_end_1 ++ []
def dkwX4_end_0 : List UInt8 := [27, 133, 9, 42, 180, 0, 84, 133, 184, 0, 80, 154, 0, 5, 2, 172, 42, 180, 0, 84, 61, 42, 27]
abbrev dktX4_end_0 : List UInt8 := dkwX4_end_0 ++ dktX4_end_1
theorem dksX4_end_0 : cX4_end.data.toList.drop 0 = dktX4_end_0 := by decide +kernel
theorem dksX4_end_1 : cX4_end.data.toList.drop 23 = dktX4_end_1 := dk_seg dksX4_end_0 23 rfl rfl
theorem dX4_end_0 : decode cX4_end 0 = .ok (.iload_n 1, 1) := dk_27 (dk_at dksX4_end_0 0 rfl rfl)
theorem dX4_end_1 : decode cX4_end 1 = .ok (.i2l, 1) := dk_133 (dk_at dksX4_end_0 1 rfl rfl)
theorem dX4_end_2 : decode cX4_end 2 = .ok (.lconst 0, 1) := dk_9 (dk_at dksX4_end_0 2 rfl rfl)
theorem dX4_end_3 : decode cX4_end 3 = .ok (.aload_n 0, 1) := dk_42 (dk_at dksX4_end_0 3 rfl rfl)
theorem dX4_end_4 : decode cX4_end 4 = .ok (.getfield 84, 3) := dk_180 0 84 (dk_at dksX4_end_0 4 rfl rfl)
theorem dX4_end_7 : decode cX4_end 7 = .ok (.i2l, 1) := dk_133 (dk_at dksX4_end_0 7 rfl rfl)
theorem dX4_end_8 : decode cX4_end 8 = .ok (.invokestatic 80, 3) := dk_184 0 80 (dk_at dksX4_end_0 8 rfl rfl)
theorem dX4_end_11 : decode cX4_end 11 = .ok (.ifCond .ne 5, 3) := dk_154 0 5 (dk_at dksX4_end_0 11 rfl rfl)
theorem dX4_end_14 : decode cX4_end 14 = .ok (.iconst (-1), 1) := dk_2 (dk_at dksX4_end_0 14 rfl rfl)
theorem dX4_end_15 : decode cX4_end 15 = .ok (.ireturn, 1) := dk_172 (dk_at dksX4_end_0 15 rfl rfl)
theorem dX4_end_16 : decode cX4_end 16 = .ok (.aload_n 0, 1) := dk_42 (dk_at dksX4_end_0 16 rfl rfl)
theorem dX4_end_17 : decode cX4_end 17 = .ok (.getfield 84, 3) := dk_180 0 84 (dk_at dksX4_end_0 17 rfl rfl)
theorem dX4_end_20 : decode cX4_end 20 = .ok (.istore_n 2, 1) := dk_61 (dk_at dksX4_end_0 20 rfl rfl)
theorem dX4_end_21 : decode cX4_end 21 = .ok (.aload_n 0, 1) := dk_42 (dk_at dksX4_end_0 21 rfl rfl)
theorem dX4_end_22 : decode cX4_end 22 = .ok (.iload_n 1, 1) := dk_27 (dk_at dksX4_end_0 22 rfl rfl)
theorem dX4_end_23 : decode cX4_end 23 = .ok (.putfield 84, 3) := dk_181 0 84 (dk_at dksX4_end_1 0 rfl rfl)
theorem dX4_end_26 : decode cX4_end 26 = .ok (.iload_n 2, 1) := dk_28 (dk_at dksX4_end_1 3 rfl rfl)
theorem dX4_end_27 : decode cX4_end 27 = .ok (.ireturn, 1) := dk_172 (dk_at dksX4_end_1 4 rfl rfl)
abbrev cX4_text : ByteArray := prog_13_method_22_code
def yX4_text : MethodName := ⟨RX4, "text", "()I"⟩
def dkwX4_text_4 : List UInt8 := [158, 0, 11, 16, 246, 42, 180, 0, 93, 100, 172, 42, 182, 0, 53, 27, 172]
abbrev dktX4_text_4 : List UInt8 := dkwX4_text_4 ++ []
def dkwX4_text_3 : List UInt8 := [182, 0, 125, 42, 42, 182, 0, 161, 16, 7, 182, 0, 125, 42, 3, 181, 0, 84, 42, 180, 0, 87]
abbrev dktX4_text_3 : List UInt8 := dkwX4_text_3 ++ dktX4_text_4
def dkwX4_text_2 : List UInt8 := [154, 0, 35, 42, 42, 180, 0, 66, 42, 180, 0, 56, 162, 0, 7, 4, 167, 0, 4, 3, 16, 6]
abbrev dktX4_text_2 : List UInt8 := dkwX4_text_2 ++ dktX4_text_3
def dkwX4_text_1 : List UInt8 := [154, 0, 20, 42, 180, 0, 111, 153, 0, 13, 42, 182, 0, 158, 132, 1, 1, 167, 255, 235, 42, 180, 0, 87]
abbrev dktX4_text_1 : List UInt8 := dkwX4_text_1 ++ dktX4_text_2
def dkwX4_text_0 : List UInt8 := [3, 60, 42, 3, 181, 0, 87, 42, 3, 181, 0, 96, 42, 182, 0, 50, 42, 182, 0, 129, 42, 180, 0, 87]
abbrev dktX4_text_0 : List UInt8 := dkwX4_text_0 ++ dktX4_text_1
theorem dksX4_text_0 : cX4_text.data.toList.drop 0 = dktX4_text_0 := by decide +kernel
theorem dksX4_text_1 : cX4_text.data.toList.drop 24 = dktX4_text_1 := dk_seg dksX4_text_0 24 rfl rfl
theorem dksX4_text_2 : cX4_text.data.toList.drop 48 = dktX4_text_2 := dk_seg dksX4_text_1 24 rfl rfl
theorem dksX4_text_3 : cX4_text.data.toList.drop 70 = dktX4_text_3 := dk_seg dksX4_text_2 22 rfl rfl
theorem dksX4_text_4 : cX4_text.data.toList.drop 92 = dktX4_text_4 := dk_seg dksX4_text_3 22 rfl rfl
theorem dX4_text_0 : decode cX4_text 0 = .ok (.iconst 0, 1) := dk_3 (dk_at dksX4_text_0 0 rfl rfl)
theorem dX4_text_1 : decode cX4_text 1 = .ok (.istore_n 1, 1) := dk_60 (dk_at dksX4_text_0 1 rfl rfl)
theorem dX4_text_2 : decode cX4_text 2 = .ok (.aload_n 0, 1) := dk_42 (dk_at dksX4_text_0 2 rfl rfl)
theorem dX4_text_3 : decode cX4_text 3 = .ok (.iconst 0, 1) := dk_3 (dk_at dksX4_text_0 3 rfl rfl)
theorem dX4_text_4 : decode cX4_text 4 = .ok (.putfield 87, 3) := dk_181 0 87 (dk_at dksX4_text_0 4 rfl rfl)
theorem dX4_text_7 : decode cX4_text 7 = .ok (.aload_n 0, 1) := dk_42 (dk_at dksX4_text_0 7 rfl rfl)
theorem dX4_text_8 : decode cX4_text 8 = .ok (.iconst 0, 1) := dk_3 (dk_at dksX4_text_0 8 rfl rfl)
theorem dX4_text_9 : decode cX4_text 9 = .ok (.putfield 96, 3) := dk_181 0 96 (dk_at dksX4_text_0 9 rfl rfl)
theorem dX4_text_12 : decode cX4_text 12 = .ok (.aload_n 0, 1) := dk_42 (dk_at dksX4_text_0 12 rfl rfl)
theorem dX4_text_13 : decode cX4_text 13 = .ok (.invokevirtual 50, 3) := dk_182 0 50 (dk_at dksX4_text_0 13 rfl rfl)
theorem dX4_text_16 : decode cX4_text 16 = .ok (.aload_n 0, 1) := dk_42 (dk_at dksX4_text_0 16 rfl rfl)
theorem dX4_text_17 : decode cX4_text 17 = .ok (.invokevirtual 129, 3) := dk_182 0 129 (dk_at dksX4_text_0 17 rfl rfl)
theorem dX4_text_20 : decode cX4_text 20 = .ok (.aload_n 0, 1) := dk_42 (dk_at dksX4_text_0 20 rfl rfl)
theorem dX4_text_21 : decode cX4_text 21 = .ok (.getfield 87, 3) := dk_180 0 87 (dk_at dksX4_text_0 21 rfl rfl)
theorem dX4_text_24 : decode cX4_text 24 = .ok (.ifCond .ne 20, 3) := dk_154 0 20 (dk_at dksX4_text_1 0 rfl rfl)
theorem dX4_text_27 : decode cX4_text 27 = .ok (.aload_n 0, 1) := dk_42 (dk_at dksX4_text_1 3 rfl rfl)
theorem dX4_text_28 : decode cX4_text 28 = .ok (.getfield 111, 3) := dk_180 0 111 (dk_at dksX4_text_1 4 rfl rfl)
theorem dX4_text_31 : decode cX4_text 31 = .ok (.ifCond .eq 13, 3) := dk_153 0 13 (dk_at dksX4_text_1 7 rfl rfl)
theorem dX4_text_34 : decode cX4_text 34 = .ok (.aload_n 0, 1) := dk_42 (dk_at dksX4_text_1 10 rfl rfl)
theorem dX4_text_35 : decode cX4_text 35 = .ok (.invokevirtual 158, 3) := dk_182 0 158 (dk_at dksX4_text_1 11 rfl rfl)
theorem dX4_text_38 : decode cX4_text 38 = .ok (.iinc 1 1, 3) := dk_132 1 1 (dk_at dksX4_text_1 14 rfl rfl)
theorem dX4_text_41 : decode cX4_text 41 = .ok (.goto (-21), 3) := dk_167 255 235 (dk_at dksX4_text_1 17 rfl rfl)
theorem dX4_text_44 : decode cX4_text 44 = .ok (.aload_n 0, 1) := dk_42 (dk_at dksX4_text_1 20 rfl rfl)
theorem dX4_text_45 : decode cX4_text 45 = .ok (.getfield 87, 3) := dk_180 0 87 (dk_at dksX4_text_1 21 rfl rfl)
theorem dX4_text_48 : decode cX4_text 48 = .ok (.ifCond .ne 35, 3) := dk_154 0 35 (dk_at dksX4_text_2 0 rfl rfl)
theorem dX4_text_51 : decode cX4_text 51 = .ok (.aload_n 0, 1) := dk_42 (dk_at dksX4_text_2 3 rfl rfl)
theorem dX4_text_52 : decode cX4_text 52 = .ok (.aload_n 0, 1) := dk_42 (dk_at dksX4_text_2 4 rfl rfl)
theorem dX4_text_53 : decode cX4_text 53 = .ok (.getfield 66, 3) := dk_180 0 66 (dk_at dksX4_text_2 5 rfl rfl)
theorem dX4_text_56 : decode cX4_text 56 = .ok (.aload_n 0, 1) := dk_42 (dk_at dksX4_text_2 8 rfl rfl)
theorem dX4_text_57 : decode cX4_text 57 = .ok (.getfield 56, 3) := dk_180 0 56 (dk_at dksX4_text_2 9 rfl rfl)
theorem dX4_text_60 : decode cX4_text 60 = .ok (.if_icmp .ge 7, 3) := dk_162 0 7 (dk_at dksX4_text_2 12 rfl rfl)
theorem dX4_text_63 : decode cX4_text 63 = .ok (.iconst 1, 1) := dk_4 (dk_at dksX4_text_2 15 rfl rfl)
theorem dX4_text_64 : decode cX4_text 64 = .ok (.goto 4, 3) := dk_167 0 4 (dk_at dksX4_text_2 16 rfl rfl)
theorem dX4_text_67 : decode cX4_text 67 = .ok (.iconst 0, 1) := dk_3 (dk_at dksX4_text_2 19 rfl rfl)
theorem dX4_text_68 : decode cX4_text 68 = .ok (.bipush 6, 2) := dk_16 6 (dk_at dksX4_text_2 20 rfl rfl)
theorem dX4_text_70 : decode cX4_text 70 = .ok (.invokevirtual 125, 3) := dk_182 0 125 (dk_at dksX4_text_3 0 rfl rfl)
theorem dX4_text_73 : decode cX4_text 73 = .ok (.aload_n 0, 1) := dk_42 (dk_at dksX4_text_3 3 rfl rfl)
theorem dX4_text_74 : decode cX4_text 74 = .ok (.aload_n 0, 1) := dk_42 (dk_at dksX4_text_3 4 rfl rfl)
theorem dX4_text_75 : decode cX4_text 75 = .ok (.invokevirtual 161, 3) := dk_182 0 161 (dk_at dksX4_text_3 5 rfl rfl)
theorem dX4_text_78 : decode cX4_text 78 = .ok (.bipush 7, 2) := dk_16 7 (dk_at dksX4_text_3 8 rfl rfl)
theorem dX4_text_80 : decode cX4_text 80 = .ok (.invokevirtual 125, 3) := dk_182 0 125 (dk_at dksX4_text_3 10 rfl rfl)
theorem dX4_text_83 : decode cX4_text 83 = .ok (.aload_n 0, 1) := dk_42 (dk_at dksX4_text_3 13 rfl rfl)
theorem dX4_text_84 : decode cX4_text 84 = .ok (.iconst 0, 1) := dk_3 (dk_at dksX4_text_3 14 rfl rfl)
theorem dX4_text_85 : decode cX4_text 85 = .ok (.putfield 84, 3) := dk_181 0 84 (dk_at dksX4_text_3 15 rfl rfl)
theorem dX4_text_88 : decode cX4_text 88 = .ok (.aload_n 0, 1) := dk_42 (dk_at dksX4_text_3 18 rfl rfl)
theorem dX4_text_89 : decode cX4_text 89 = .ok (.getfield 87, 3) := dk_180 0 87 (dk_at dksX4_text_3 19 rfl rfl)
theorem dX4_text_92 : decode cX4_text 92 = .ok (.ifCond .le 11, 3) := dk_158 0 11 (dk_at dksX4_text_4 0 rfl rfl)
theorem dX4_text_95 : decode cX4_text 95 = .ok (.bipush (-10), 2) := dk_16 246 (dk_at dksX4_text_4 3 rfl rfl)
theorem dX4_text_97 : decode cX4_text 97 = .ok (.aload_n 0, 1) := dk_42 (dk_at dksX4_text_4 5 rfl rfl)
theorem dX4_text_98 : decode cX4_text 98 = .ok (.getfield 93, 3) := dk_180 0 93 (dk_at dksX4_text_4 6 rfl rfl)
theorem dX4_text_101 : decode cX4_text 101 = .ok (.isub, 1) := dk_100 (dk_at dksX4_text_4 9 rfl rfl)
theorem dX4_text_102 : decode cX4_text 102 = .ok (.ireturn, 1) := dk_172 (dk_at dksX4_text_4 10 rfl rfl)
theorem dX4_text_103 : decode cX4_text 103 = .ok (.aload_n 0, 1) := dk_42 (dk_at dksX4_text_4 11 rfl rfl)
theorem dX4_text_104 : decode cX4_text 104 = .ok (.invokevirtual 53, 3) := dk_182 0 53 (dk_at dksX4_text_4 12 rfl rfl)
theorem dX4_text_107 : decode cX4_text 107 = .ok (.iload_n 1, 1) := dk_27 (dk_at dksX4_text_4 15 rfl rfl)
theorem dX4_text_108 : decode cX4_text 108 = .ok (.ireturn, 1) := dk_172 (dk_at dksX4_text_4 16 rfl rfl)
abbrev cX4_next : ByteArray := prog_13_method_15_code
def yX4_next : MethodName := ⟨RX4, "next", "()V"⟩
def dkwX4_next_11 : List UInt8 := [182, 0, 125, 42, 89, 180, 0, 96, 4, 96, 181, 0, 96, 177]
abbrev dktX4_next_11 : List UInt8 := dkwX4_next_11 ++ []
def dkwX4_next_10 : List UInt8 := [182, 0, 125, 167, 0, 34, 42, 6, 181, 0, 111, 42, 27, 16, 59, 160, 0, 7, 4, 167, 0, 4, 3, 4]
abbrev dktX4_next_10 : List UInt8 := dkwX4_next_10 ++ dktX4_next_11
def dkwX4_next_9 : List UInt8 := [167, 255, 182, 42, 42, 180, 0, 96, 42, 180, 0, 90, 100, 5, 163, 0, 7, 4, 167, 0, 4, 3, 4]
abbrev dktX4_next_9 : List UInt8 := dkwX4_next_9 ++ dktX4_next_10
def dkwX4_next_8 : List UInt8 := [96, 16, 48, 100, 167, 0, 7, 42, 180, 0, 122, 181, 0, 122, 42, 89, 180, 0, 96, 4, 96, 181, 0, 96]
abbrev dktX4_next_8 : List UInt8 := dkwX4_next_8 ++ dktX4_next_9
def dkwX4_next_7 : List UInt8 := [42, 180, 0, 90, 100, 5, 162, 0, 25, 16, 10, 42, 180, 0, 122, 104, 42, 42, 180, 0, 96, 182, 0, 99]
abbrev dktX4_next_7 : List UInt8 := dkwX4_next_7 ++ dktX4_next_8
def dkwX4_next_6 : List UInt8 := [180, 0, 96, 182, 0, 99, 133, 20, 0, 118, 20, 0, 120, 184, 0, 80, 153, 0, 59, 42, 42, 180, 0, 96]
abbrev dktX4_next_6 : List UInt8 := dkwX4_next_6 ++ dktX4_next_7
def dkwX4_next_5 : List UInt8 := [20, 0, 118, 20, 0, 120, 184, 0, 80, 153, 0, 116, 42, 5, 181, 0, 111, 42, 3, 181, 0, 122, 42, 42]
abbrev dktX4_next_5 : List UInt8 := dkwX4_next_5 ++ dktX4_next_6
def dkwX4_next_4 : List UInt8 := [20, 0, 116, 184, 0, 80, 153, 0, 174, 42, 89, 180, 0, 96, 4, 96, 181, 0, 96, 167, 255, 225, 27, 133]
abbrev dktX4_next_4 : List UInt8 := dkwX4_next_4 ++ dktX4_next_5
def dkwX4_next_3 : List UInt8 := [184, 0, 80, 153, 0, 42, 42, 4, 181, 0, 111, 42, 42, 180, 0, 96, 182, 0, 99, 133, 20, 0, 114]
abbrev dktX4_next_3 : List UInt8 := dkwX4_next_3 ++ dktX4_next_4
def dkwX4_next_2 : List UInt8 := [182, 0, 99, 60, 27, 156, 0, 11, 42, 3, 181, 0, 111, 167, 0, 214, 27, 133, 20, 0, 114, 20, 0, 116]
abbrev dktX4_next_2 : List UInt8 := dkwX4_next_2 ++ dktX4_next_3
def dkwX4_next_1 : List UInt8 := [180, 0, 96, 4, 96, 181, 0, 96, 167, 255, 233, 42, 42, 180, 0, 96, 181, 0, 90, 42, 42, 180, 0, 96]
abbrev dktX4_next_1 : List UInt8 := dkwX4_next_1 ++ dktX4_next_2
def dkwX4_next_0 : List UInt8 := [42, 180, 0, 87, 158, 0, 4, 177, 42, 42, 180, 0, 96, 182, 0, 99, 16, 32, 160, 0, 16, 42, 89]
abbrev dktX4_next_0 : List UInt8 := dkwX4_next_0 ++ dktX4_next_1
theorem dksX4_next_0 : cX4_next.data.toList.drop 0 = dktX4_next_0 := by decide +kernel
theorem dksX4_next_1 : cX4_next.data.toList.drop 23 = dktX4_next_1 := dk_seg dksX4_next_0 23 rfl rfl
theorem dksX4_next_2 : cX4_next.data.toList.drop 47 = dktX4_next_2 := dk_seg dksX4_next_1 24 rfl rfl
theorem dksX4_next_3 : cX4_next.data.toList.drop 71 = dktX4_next_3 := dk_seg dksX4_next_2 24 rfl rfl
theorem dksX4_next_4 : cX4_next.data.toList.drop 94 = dktX4_next_4 := dk_seg dksX4_next_3 23 rfl rfl
theorem dksX4_next_5 : cX4_next.data.toList.drop 118 = dktX4_next_5 := dk_seg dksX4_next_4 24 rfl rfl
theorem dksX4_next_6 : cX4_next.data.toList.drop 142 = dktX4_next_6 := dk_seg dksX4_next_5 24 rfl rfl
theorem dksX4_next_7 : cX4_next.data.toList.drop 166 = dktX4_next_7 := dk_seg dksX4_next_6 24 rfl rfl
theorem dksX4_next_8 : cX4_next.data.toList.drop 190 = dktX4_next_8 := dk_seg dksX4_next_7 24 rfl rfl
theorem dksX4_next_9 : cX4_next.data.toList.drop 214 = dktX4_next_9 := dk_seg dksX4_next_8 24 rfl rfl
theorem dksX4_next_10 : cX4_next.data.toList.drop 237 = dktX4_next_10 := dk_seg dksX4_next_9 23 rfl rfl
theorem dksX4_next_11 : cX4_next.data.toList.drop 261 = dktX4_next_11 := dk_seg dksX4_next_10 24 rfl rfl
theorem dX4_next_0 : decode cX4_next 0 = .ok (.aload_n 0, 1) := dk_42 (dk_at dksX4_next_0 0 rfl rfl)
theorem dX4_next_1 : decode cX4_next 1 = .ok (.getfield 87, 3) := dk_180 0 87 (dk_at dksX4_next_0 1 rfl rfl)
theorem dX4_next_4 : decode cX4_next 4 = .ok (.ifCond .le 4, 3) := dk_158 0 4 (dk_at dksX4_next_0 4 rfl rfl)
theorem dX4_next_7 : decode cX4_next 7 = .ok (.return_, 1) := dk_177 (dk_at dksX4_next_0 7 rfl rfl)
theorem dX4_next_8 : decode cX4_next 8 = .ok (.aload_n 0, 1) := dk_42 (dk_at dksX4_next_0 8 rfl rfl)
theorem dX4_next_9 : decode cX4_next 9 = .ok (.aload_n 0, 1) := dk_42 (dk_at dksX4_next_0 9 rfl rfl)
theorem dX4_next_10 : decode cX4_next 10 = .ok (.getfield 96, 3) := dk_180 0 96 (dk_at dksX4_next_0 10 rfl rfl)
theorem dX4_next_13 : decode cX4_next 13 = .ok (.invokevirtual 99, 3) := dk_182 0 99 (dk_at dksX4_next_0 13 rfl rfl)
theorem dX4_next_16 : decode cX4_next 16 = .ok (.bipush 32, 2) := dk_16 32 (dk_at dksX4_next_0 16 rfl rfl)
theorem dX4_next_18 : decode cX4_next 18 = .ok (.if_icmp .ne 16, 3) := dk_160 0 16 (dk_at dksX4_next_0 18 rfl rfl)
theorem dX4_next_21 : decode cX4_next 21 = .ok (.aload_n 0, 1) := dk_42 (dk_at dksX4_next_0 21 rfl rfl)
theorem dX4_next_22 : decode cX4_next 22 = .ok (.dup, 1) := dk_89 (dk_at dksX4_next_0 22 rfl rfl)
theorem dX4_next_23 : decode cX4_next 23 = .ok (.getfield 96, 3) := dk_180 0 96 (dk_at dksX4_next_1 0 rfl rfl)
theorem dX4_next_26 : decode cX4_next 26 = .ok (.iconst 1, 1) := dk_4 (dk_at dksX4_next_1 3 rfl rfl)
theorem dX4_next_27 : decode cX4_next 27 = .ok (.iadd, 1) := dk_96 (dk_at dksX4_next_1 4 rfl rfl)
theorem dX4_next_28 : decode cX4_next 28 = .ok (.putfield 96, 3) := dk_181 0 96 (dk_at dksX4_next_1 5 rfl rfl)
theorem dX4_next_31 : decode cX4_next 31 = .ok (.goto (-23), 3) := dk_167 255 233 (dk_at dksX4_next_1 8 rfl rfl)
theorem dX4_next_34 : decode cX4_next 34 = .ok (.aload_n 0, 1) := dk_42 (dk_at dksX4_next_1 11 rfl rfl)
theorem dX4_next_35 : decode cX4_next 35 = .ok (.aload_n 0, 1) := dk_42 (dk_at dksX4_next_1 12 rfl rfl)
theorem dX4_next_36 : decode cX4_next 36 = .ok (.getfield 96, 3) := dk_180 0 96 (dk_at dksX4_next_1 13 rfl rfl)
theorem dX4_next_39 : decode cX4_next 39 = .ok (.putfield 90, 3) := dk_181 0 90 (dk_at dksX4_next_1 16 rfl rfl)
theorem dX4_next_42 : decode cX4_next 42 = .ok (.aload_n 0, 1) := dk_42 (dk_at dksX4_next_1 19 rfl rfl)
theorem dX4_next_43 : decode cX4_next 43 = .ok (.aload_n 0, 1) := dk_42 (dk_at dksX4_next_1 20 rfl rfl)
theorem dX4_next_44 : decode cX4_next 44 = .ok (.getfield 96, 3) := dk_180 0 96 (dk_at dksX4_next_1 21 rfl rfl)
theorem dX4_next_47 : decode cX4_next 47 = .ok (.invokevirtual 99, 3) := dk_182 0 99 (dk_at dksX4_next_2 0 rfl rfl)
theorem dX4_next_50 : decode cX4_next 50 = .ok (.istore_n 1, 1) := dk_60 (dk_at dksX4_next_2 3 rfl rfl)
theorem dX4_next_51 : decode cX4_next 51 = .ok (.iload_n 1, 1) := dk_27 (dk_at dksX4_next_2 4 rfl rfl)
theorem dX4_next_52 : decode cX4_next 52 = .ok (.ifCond .ge 11, 3) := dk_156 0 11 (dk_at dksX4_next_2 5 rfl rfl)
theorem dX4_next_55 : decode cX4_next 55 = .ok (.aload_n 0, 1) := dk_42 (dk_at dksX4_next_2 8 rfl rfl)
theorem dX4_next_56 : decode cX4_next 56 = .ok (.iconst 0, 1) := dk_3 (dk_at dksX4_next_2 9 rfl rfl)
theorem dX4_next_57 : decode cX4_next 57 = .ok (.putfield 111, 3) := dk_181 0 111 (dk_at dksX4_next_2 10 rfl rfl)
theorem dX4_next_60 : decode cX4_next 60 = .ok (.goto 214, 3) := dk_167 0 214 (dk_at dksX4_next_2 13 rfl rfl)
theorem dX4_next_63 : decode cX4_next 63 = .ok (.iload_n 1, 1) := dk_27 (dk_at dksX4_next_2 16 rfl rfl)
theorem dX4_next_64 : decode cX4_next 64 = .ok (.i2l, 1) := dk_133 (dk_at dksX4_next_2 17 rfl rfl)
theorem dX4_next_65 : decode cX4_next 65 = .ok (.ldc2_w 114, 3) := dk_20 0 114 (dk_at dksX4_next_2 18 rfl rfl)
theorem dX4_next_68 : decode cX4_next 68 = .ok (.ldc2_w 116, 3) := dk_20 0 116 (dk_at dksX4_next_2 21 rfl rfl)
theorem dX4_next_71 : decode cX4_next 71 = .ok (.invokestatic 80, 3) := dk_184 0 80 (dk_at dksX4_next_3 0 rfl rfl)
theorem dX4_next_74 : decode cX4_next 74 = .ok (.ifCond .eq 42, 3) := dk_153 0 42 (dk_at dksX4_next_3 3 rfl rfl)
theorem dX4_next_77 : decode cX4_next 77 = .ok (.aload_n 0, 1) := dk_42 (dk_at dksX4_next_3 6 rfl rfl)
theorem dX4_next_78 : decode cX4_next 78 = .ok (.iconst 1, 1) := dk_4 (dk_at dksX4_next_3 7 rfl rfl)
theorem dX4_next_79 : decode cX4_next 79 = .ok (.putfield 111, 3) := dk_181 0 111 (dk_at dksX4_next_3 8 rfl rfl)
theorem dX4_next_82 : decode cX4_next 82 = .ok (.aload_n 0, 1) := dk_42 (dk_at dksX4_next_3 11 rfl rfl)
theorem dX4_next_83 : decode cX4_next 83 = .ok (.aload_n 0, 1) := dk_42 (dk_at dksX4_next_3 12 rfl rfl)
theorem dX4_next_84 : decode cX4_next 84 = .ok (.getfield 96, 3) := dk_180 0 96 (dk_at dksX4_next_3 13 rfl rfl)
theorem dX4_next_87 : decode cX4_next 87 = .ok (.invokevirtual 99, 3) := dk_182 0 99 (dk_at dksX4_next_3 16 rfl rfl)
theorem dX4_next_90 : decode cX4_next 90 = .ok (.i2l, 1) := dk_133 (dk_at dksX4_next_3 19 rfl rfl)
theorem dX4_next_91 : decode cX4_next 91 = .ok (.ldc2_w 114, 3) := dk_20 0 114 (dk_at dksX4_next_3 20 rfl rfl)
theorem dX4_next_94 : decode cX4_next 94 = .ok (.ldc2_w 116, 3) := dk_20 0 116 (dk_at dksX4_next_4 0 rfl rfl)
theorem dX4_next_97 : decode cX4_next 97 = .ok (.invokestatic 80, 3) := dk_184 0 80 (dk_at dksX4_next_4 3 rfl rfl)
theorem dX4_next_100 : decode cX4_next 100 = .ok (.ifCond .eq 174, 3) := dk_153 0 174 (dk_at dksX4_next_4 6 rfl rfl)
theorem dX4_next_103 : decode cX4_next 103 = .ok (.aload_n 0, 1) := dk_42 (dk_at dksX4_next_4 9 rfl rfl)
theorem dX4_next_104 : decode cX4_next 104 = .ok (.dup, 1) := dk_89 (dk_at dksX4_next_4 10 rfl rfl)
theorem dX4_next_105 : decode cX4_next 105 = .ok (.getfield 96, 3) := dk_180 0 96 (dk_at dksX4_next_4 11 rfl rfl)
theorem dX4_next_108 : decode cX4_next 108 = .ok (.iconst 1, 1) := dk_4 (dk_at dksX4_next_4 14 rfl rfl)
theorem dX4_next_109 : decode cX4_next 109 = .ok (.iadd, 1) := dk_96 (dk_at dksX4_next_4 15 rfl rfl)
theorem dX4_next_110 : decode cX4_next 110 = .ok (.putfield 96, 3) := dk_181 0 96 (dk_at dksX4_next_4 16 rfl rfl)
theorem dX4_next_113 : decode cX4_next 113 = .ok (.goto (-31), 3) := dk_167 255 225 (dk_at dksX4_next_4 19 rfl rfl)
theorem dX4_next_116 : decode cX4_next 116 = .ok (.iload_n 1, 1) := dk_27 (dk_at dksX4_next_4 22 rfl rfl)
theorem dX4_next_117 : decode cX4_next 117 = .ok (.i2l, 1) := dk_133 (dk_at dksX4_next_4 23 rfl rfl)
theorem dX4_next_118 : decode cX4_next 118 = .ok (.ldc2_w 118, 3) := dk_20 0 118 (dk_at dksX4_next_5 0 rfl rfl)
theorem dX4_next_121 : decode cX4_next 121 = .ok (.ldc2_w 120, 3) := dk_20 0 120 (dk_at dksX4_next_5 3 rfl rfl)
theorem dX4_next_124 : decode cX4_next 124 = .ok (.invokestatic 80, 3) := dk_184 0 80 (dk_at dksX4_next_5 6 rfl rfl)
theorem dX4_next_127 : decode cX4_next 127 = .ok (.ifCond .eq 116, 3) := dk_153 0 116 (dk_at dksX4_next_5 9 rfl rfl)
theorem dX4_next_130 : decode cX4_next 130 = .ok (.aload_n 0, 1) := dk_42 (dk_at dksX4_next_5 12 rfl rfl)
theorem dX4_next_131 : decode cX4_next 131 = .ok (.iconst 2, 1) := dk_5 (dk_at dksX4_next_5 13 rfl rfl)
theorem dX4_next_132 : decode cX4_next 132 = .ok (.putfield 111, 3) := dk_181 0 111 (dk_at dksX4_next_5 14 rfl rfl)
theorem dX4_next_135 : decode cX4_next 135 = .ok (.aload_n 0, 1) := dk_42 (dk_at dksX4_next_5 17 rfl rfl)
theorem dX4_next_136 : decode cX4_next 136 = .ok (.iconst 0, 1) := dk_3 (dk_at dksX4_next_5 18 rfl rfl)
theorem dX4_next_137 : decode cX4_next 137 = .ok (.putfield 122, 3) := dk_181 0 122 (dk_at dksX4_next_5 19 rfl rfl)
theorem dX4_next_140 : decode cX4_next 140 = .ok (.aload_n 0, 1) := dk_42 (dk_at dksX4_next_5 22 rfl rfl)
theorem dX4_next_141 : decode cX4_next 141 = .ok (.aload_n 0, 1) := dk_42 (dk_at dksX4_next_5 23 rfl rfl)
theorem dX4_next_142 : decode cX4_next 142 = .ok (.getfield 96, 3) := dk_180 0 96 (dk_at dksX4_next_6 0 rfl rfl)
theorem dX4_next_145 : decode cX4_next 145 = .ok (.invokevirtual 99, 3) := dk_182 0 99 (dk_at dksX4_next_6 3 rfl rfl)
theorem dX4_next_148 : decode cX4_next 148 = .ok (.i2l, 1) := dk_133 (dk_at dksX4_next_6 6 rfl rfl)
theorem dX4_next_149 : decode cX4_next 149 = .ok (.ldc2_w 118, 3) := dk_20 0 118 (dk_at dksX4_next_6 7 rfl rfl)
theorem dX4_next_152 : decode cX4_next 152 = .ok (.ldc2_w 120, 3) := dk_20 0 120 (dk_at dksX4_next_6 10 rfl rfl)
theorem dX4_next_155 : decode cX4_next 155 = .ok (.invokestatic 80, 3) := dk_184 0 80 (dk_at dksX4_next_6 13 rfl rfl)
theorem dX4_next_158 : decode cX4_next 158 = .ok (.ifCond .eq 59, 3) := dk_153 0 59 (dk_at dksX4_next_6 16 rfl rfl)
theorem dX4_next_161 : decode cX4_next 161 = .ok (.aload_n 0, 1) := dk_42 (dk_at dksX4_next_6 19 rfl rfl)
theorem dX4_next_162 : decode cX4_next 162 = .ok (.aload_n 0, 1) := dk_42 (dk_at dksX4_next_6 20 rfl rfl)
theorem dX4_next_163 : decode cX4_next 163 = .ok (.getfield 96, 3) := dk_180 0 96 (dk_at dksX4_next_6 21 rfl rfl)
theorem dX4_next_166 : decode cX4_next 166 = .ok (.aload_n 0, 1) := dk_42 (dk_at dksX4_next_7 0 rfl rfl)
theorem dX4_next_167 : decode cX4_next 167 = .ok (.getfield 90, 3) := dk_180 0 90 (dk_at dksX4_next_7 1 rfl rfl)
theorem dX4_next_170 : decode cX4_next 170 = .ok (.isub, 1) := dk_100 (dk_at dksX4_next_7 4 rfl rfl)
theorem dX4_next_171 : decode cX4_next 171 = .ok (.iconst 2, 1) := dk_5 (dk_at dksX4_next_7 5 rfl rfl)
theorem dX4_next_172 : decode cX4_next 172 = .ok (.if_icmp .ge 25, 3) := dk_162 0 25 (dk_at dksX4_next_7 6 rfl rfl)
theorem dX4_next_175 : decode cX4_next 175 = .ok (.bipush 10, 2) := dk_16 10 (dk_at dksX4_next_7 9 rfl rfl)
theorem dX4_next_177 : decode cX4_next 177 = .ok (.aload_n 0, 1) := dk_42 (dk_at dksX4_next_7 11 rfl rfl)
theorem dX4_next_178 : decode cX4_next 178 = .ok (.getfield 122, 3) := dk_180 0 122 (dk_at dksX4_next_7 12 rfl rfl)
theorem dX4_next_181 : decode cX4_next 181 = .ok (.imul, 1) := dk_104 (dk_at dksX4_next_7 15 rfl rfl)
theorem dX4_next_182 : decode cX4_next 182 = .ok (.aload_n 0, 1) := dk_42 (dk_at dksX4_next_7 16 rfl rfl)
theorem dX4_next_183 : decode cX4_next 183 = .ok (.aload_n 0, 1) := dk_42 (dk_at dksX4_next_7 17 rfl rfl)
theorem dX4_next_184 : decode cX4_next 184 = .ok (.getfield 96, 3) := dk_180 0 96 (dk_at dksX4_next_7 18 rfl rfl)
theorem dX4_next_187 : decode cX4_next 187 = .ok (.invokevirtual 99, 3) := dk_182 0 99 (dk_at dksX4_next_7 21 rfl rfl)
theorem dX4_next_190 : decode cX4_next 190 = .ok (.iadd, 1) := dk_96 (dk_at dksX4_next_8 0 rfl rfl)
theorem dX4_next_191 : decode cX4_next 191 = .ok (.bipush 48, 2) := dk_16 48 (dk_at dksX4_next_8 1 rfl rfl)
theorem dX4_next_193 : decode cX4_next 193 = .ok (.isub, 1) := dk_100 (dk_at dksX4_next_8 3 rfl rfl)
theorem dX4_next_194 : decode cX4_next 194 = .ok (.goto 7, 3) := dk_167 0 7 (dk_at dksX4_next_8 4 rfl rfl)
theorem dX4_next_197 : decode cX4_next 197 = .ok (.aload_n 0, 1) := dk_42 (dk_at dksX4_next_8 7 rfl rfl)
theorem dX4_next_198 : decode cX4_next 198 = .ok (.getfield 122, 3) := dk_180 0 122 (dk_at dksX4_next_8 8 rfl rfl)
theorem dX4_next_201 : decode cX4_next 201 = .ok (.putfield 122, 3) := dk_181 0 122 (dk_at dksX4_next_8 11 rfl rfl)
theorem dX4_next_204 : decode cX4_next 204 = .ok (.aload_n 0, 1) := dk_42 (dk_at dksX4_next_8 14 rfl rfl)
theorem dX4_next_205 : decode cX4_next 205 = .ok (.dup, 1) := dk_89 (dk_at dksX4_next_8 15 rfl rfl)
theorem dX4_next_206 : decode cX4_next 206 = .ok (.getfield 96, 3) := dk_180 0 96 (dk_at dksX4_next_8 16 rfl rfl)
theorem dX4_next_209 : decode cX4_next 209 = .ok (.iconst 1, 1) := dk_4 (dk_at dksX4_next_8 19 rfl rfl)
theorem dX4_next_210 : decode cX4_next 210 = .ok (.iadd, 1) := dk_96 (dk_at dksX4_next_8 20 rfl rfl)
theorem dX4_next_211 : decode cX4_next 211 = .ok (.putfield 96, 3) := dk_181 0 96 (dk_at dksX4_next_8 21 rfl rfl)
theorem dX4_next_214 : decode cX4_next 214 = .ok (.goto (-74), 3) := dk_167 255 182 (dk_at dksX4_next_9 0 rfl rfl)
theorem dX4_next_217 : decode cX4_next 217 = .ok (.aload_n 0, 1) := dk_42 (dk_at dksX4_next_9 3 rfl rfl)
theorem dX4_next_218 : decode cX4_next 218 = .ok (.aload_n 0, 1) := dk_42 (dk_at dksX4_next_9 4 rfl rfl)
theorem dX4_next_219 : decode cX4_next 219 = .ok (.getfield 96, 3) := dk_180 0 96 (dk_at dksX4_next_9 5 rfl rfl)
theorem dX4_next_222 : decode cX4_next 222 = .ok (.aload_n 0, 1) := dk_42 (dk_at dksX4_next_9 8 rfl rfl)
theorem dX4_next_223 : decode cX4_next 223 = .ok (.getfield 90, 3) := dk_180 0 90 (dk_at dksX4_next_9 9 rfl rfl)
theorem dX4_next_226 : decode cX4_next 226 = .ok (.isub, 1) := dk_100 (dk_at dksX4_next_9 12 rfl rfl)
theorem dX4_next_227 : decode cX4_next 227 = .ok (.iconst 2, 1) := dk_5 (dk_at dksX4_next_9 13 rfl rfl)
theorem dX4_next_228 : decode cX4_next 228 = .ok (.if_icmp .gt 7, 3) := dk_163 0 7 (dk_at dksX4_next_9 14 rfl rfl)
theorem dX4_next_231 : decode cX4_next 231 = .ok (.iconst 1, 1) := dk_4 (dk_at dksX4_next_9 17 rfl rfl)
theorem dX4_next_232 : decode cX4_next 232 = .ok (.goto 4, 3) := dk_167 0 4 (dk_at dksX4_next_9 18 rfl rfl)
theorem dX4_next_235 : decode cX4_next 235 = .ok (.iconst 0, 1) := dk_3 (dk_at dksX4_next_9 21 rfl rfl)
theorem dX4_next_236 : decode cX4_next 236 = .ok (.iconst 1, 1) := dk_4 (dk_at dksX4_next_9 22 rfl rfl)
theorem dX4_next_237 : decode cX4_next 237 = .ok (.invokevirtual 125, 3) := dk_182 0 125 (dk_at dksX4_next_10 0 rfl rfl)
theorem dX4_next_240 : decode cX4_next 240 = .ok (.goto 34, 3) := dk_167 0 34 (dk_at dksX4_next_10 3 rfl rfl)
theorem dX4_next_243 : decode cX4_next 243 = .ok (.aload_n 0, 1) := dk_42 (dk_at dksX4_next_10 6 rfl rfl)
theorem dX4_next_244 : decode cX4_next 244 = .ok (.iconst 3, 1) := dk_6 (dk_at dksX4_next_10 7 rfl rfl)
theorem dX4_next_245 : decode cX4_next 245 = .ok (.putfield 111, 3) := dk_181 0 111 (dk_at dksX4_next_10 8 rfl rfl)
theorem dX4_next_248 : decode cX4_next 248 = .ok (.aload_n 0, 1) := dk_42 (dk_at dksX4_next_10 11 rfl rfl)
theorem dX4_next_249 : decode cX4_next 249 = .ok (.iload_n 1, 1) := dk_27 (dk_at dksX4_next_10 12 rfl rfl)
theorem dX4_next_250 : decode cX4_next 250 = .ok (.bipush 59, 2) := dk_16 59 (dk_at dksX4_next_10 13 rfl rfl)
theorem dX4_next_252 : decode cX4_next 252 = .ok (.if_icmp .ne 7, 3) := dk_160 0 7 (dk_at dksX4_next_10 15 rfl rfl)
theorem dX4_next_255 : decode cX4_next 255 = .ok (.iconst 1, 1) := dk_4 (dk_at dksX4_next_10 18 rfl rfl)
theorem dX4_next_256 : decode cX4_next 256 = .ok (.goto 4, 3) := dk_167 0 4 (dk_at dksX4_next_10 19 rfl rfl)
theorem dX4_next_259 : decode cX4_next 259 = .ok (.iconst 0, 1) := dk_3 (dk_at dksX4_next_10 22 rfl rfl)
theorem dX4_next_260 : decode cX4_next 260 = .ok (.iconst 1, 1) := dk_4 (dk_at dksX4_next_10 23 rfl rfl)
theorem dX4_next_261 : decode cX4_next 261 = .ok (.invokevirtual 125, 3) := dk_182 0 125 (dk_at dksX4_next_11 0 rfl rfl)
theorem dX4_next_264 : decode cX4_next 264 = .ok (.aload_n 0, 1) := dk_42 (dk_at dksX4_next_11 3 rfl rfl)
theorem dX4_next_265 : decode cX4_next 265 = .ok (.dup, 1) := dk_89 (dk_at dksX4_next_11 4 rfl rfl)
theorem dX4_next_266 : decode cX4_next 266 = .ok (.getfield 96, 3) := dk_180 0 96 (dk_at dksX4_next_11 5 rfl rfl)
theorem dX4_next_269 : decode cX4_next 269 = .ok (.iconst 1, 1) := dk_4 (dk_at dksX4_next_11 8 rfl rfl)
theorem dX4_next_270 : decode cX4_next 270 = .ok (.iadd, 1) := dk_96 (dk_at dksX4_next_11 9 rfl rfl)
theorem dX4_next_271 : decode cX4_next 271 = .ok (.putfield 96, 3) := dk_181 0 96 (dk_at dksX4_next_11 10 rfl rfl)
theorem dX4_next_274 : decode cX4_next 274 = .ok (.return_, 1) := dk_177 (dk_at dksX4_next_11 13 rfl rfl)
abbrev cX4_byteAt : ByteArray := prog_13_method_10_code
def yX4_byteAt : MethodName := ⟨RX4, "byteAt", "(I)I"⟩
def dkwX4_byteAt_0 : List UInt8 := [27, 42, 180, 0, 84, 162, 0, 12, 42, 180, 0, 29, 27, 46, 167, 0, 4, 2, 172]
abbrev dktX4_byteAt_0 : List UInt8 := dkwX4_byteAt_0 ++ []
theorem dksX4_byteAt_0 : cX4_byteAt.data.toList.drop 0 = dktX4_byteAt_0 := by decide +kernel
theorem dX4_byteAt_0 : decode cX4_byteAt 0 = .ok (.iload_n 1, 1) := dk_27 (dk_at dksX4_byteAt_0 0 rfl rfl)
theorem dX4_byteAt_1 : decode cX4_byteAt 1 = .ok (.aload_n 0, 1) := dk_42 (dk_at dksX4_byteAt_0 1 rfl rfl)
theorem dX4_byteAt_2 : decode cX4_byteAt 2 = .ok (.getfield 84, 3) := dk_180 0 84 (dk_at dksX4_byteAt_0 2 rfl rfl)
theorem dX4_byteAt_5 : decode cX4_byteAt 5 = .ok (.if_icmp .ge 12, 3) := dk_162 0 12 (dk_at dksX4_byteAt_0 5 rfl rfl)
theorem dX4_byteAt_8 : decode cX4_byteAt 8 = .ok (.aload_n 0, 1) := dk_42 (dk_at dksX4_byteAt_0 8 rfl rfl)
theorem dX4_byteAt_9 : decode cX4_byteAt 9 = .ok (.getfield 29, 3) := dk_180 0 29 (dk_at dksX4_byteAt_0 9 rfl rfl)
theorem dX4_byteAt_12 : decode cX4_byteAt 12 = .ok (.iload_n 1, 1) := dk_27 (dk_at dksX4_byteAt_0 12 rfl rfl)
theorem dX4_byteAt_13 : decode cX4_byteAt 13 = .ok (.iaload, 1) := dk_46 (dk_at dksX4_byteAt_0 13 rfl rfl)
theorem dX4_byteAt_14 : decode cX4_byteAt 14 = .ok (.goto 4, 3) := dk_167 0 4 (dk_at dksX4_byteAt_0 14 rfl rfl)
theorem dX4_byteAt_17 : decode cX4_byteAt 17 = .ok (.iconst (-1), 1) := dk_2 (dk_at dksX4_byteAt_0 17 rfl rfl)
theorem dX4_byteAt_18 : decode cX4_byteAt 18 = .ok (.ireturn, 1) := dk_172 (dk_at dksX4_byteAt_0 18 rfl rfl)
abbrev cX4_needs : ByteArray := prog_13_method_9_code
def yX4_needs : MethodName := ⟨RX4, "needs", "(ZI)V"⟩
def dkwX4_needs_1 : List UInt8 := [177]
abbrev dktX4_needs_1 : List UInt8 := dkwX4_needs_1 ++ []
def dkwX4_needs_0 : List UInt8 := [27, 154, 0, 23, 42, 180, 0, 87, 154, 0, 16, 42, 28, 181, 0, 87, 42, 42, 180, 0, 90, 181, 0, 93]
abbrev dktX4_needs_0 : List UInt8 := dkwX4_needs_0 ++ dktX4_needs_1
theorem dksX4_needs_0 : cX4_needs.data.toList.drop 0 = dktX4_needs_0 := by decide +kernel
theorem dksX4_needs_1 : cX4_needs.data.toList.drop 24 = dktX4_needs_1 := dk_seg dksX4_needs_0 24 rfl rfl
theorem dX4_needs_0 : decode cX4_needs 0 = .ok (.iload_n 1, 1) := dk_27 (dk_at dksX4_needs_0 0 rfl rfl)
theorem dX4_needs_1 : decode cX4_needs 1 = .ok (.ifCond .ne 23, 3) := dk_154 0 23 (dk_at dksX4_needs_0 1 rfl rfl)
theorem dX4_needs_4 : decode cX4_needs 4 = .ok (.aload_n 0, 1) := dk_42 (dk_at dksX4_needs_0 4 rfl rfl)
theorem dX4_needs_5 : decode cX4_needs 5 = .ok (.getfield 87, 3) := dk_180 0 87 (dk_at dksX4_needs_0 5 rfl rfl)
theorem dX4_needs_8 : decode cX4_needs 8 = .ok (.ifCond .ne 16, 3) := dk_154 0 16 (dk_at dksX4_needs_0 8 rfl rfl)
theorem dX4_needs_11 : decode cX4_needs 11 = .ok (.aload_n 0, 1) := dk_42 (dk_at dksX4_needs_0 11 rfl rfl)
theorem dX4_needs_12 : decode cX4_needs 12 = .ok (.iload_n 2, 1) := dk_28 (dk_at dksX4_needs_0 12 rfl rfl)
theorem dX4_needs_13 : decode cX4_needs 13 = .ok (.putfield 87, 3) := dk_181 0 87 (dk_at dksX4_needs_0 13 rfl rfl)
theorem dX4_needs_16 : decode cX4_needs 16 = .ok (.aload_n 0, 1) := dk_42 (dk_at dksX4_needs_0 16 rfl rfl)
theorem dX4_needs_17 : decode cX4_needs 17 = .ok (.aload_n 0, 1) := dk_42 (dk_at dksX4_needs_0 17 rfl rfl)
theorem dX4_needs_18 : decode cX4_needs 18 = .ok (.getfield 90, 3) := dk_180 0 90 (dk_at dksX4_needs_0 18 rfl rfl)
theorem dX4_needs_21 : decode cX4_needs 21 = .ok (.putfield 93, 3) := dk_181 0 93 (dk_at dksX4_needs_0 21 rfl rfl)
theorem dX4_needs_24 : decode cX4_needs 24 = .ok (.return_, 1) := dk_177 (dk_at dksX4_needs_1 0 rfl rfl)
abbrev cX4_readLine : ByteArray := prog_13_method_20_code
def yX4_readLine : MethodName := ⟨RX4, "readLine", "()V"⟩
def dkwX4_readLine_6 : List UInt8 := [182, 0, 129, 177]
abbrev dktX4_readLine_6 : List UInt8 := dkwX4_readLine_6 ++ []
def dkwX4_readLine_5 : List UInt8 := [154, 0, 21, 42, 42, 180, 0, 111, 6, 160, 0, 7, 4, 167, 0, 4, 3, 5, 182, 0, 125, 42]
abbrev dktX4_readLine_5 : List UInt8 := dkwX4_readLine_5 ++ dktX4_readLine_6
def dkwX4_readLine_4 : List UInt8 := [182, 0, 125, 42, 182, 0, 129, 42, 180, 0, 87, 158, 0, 4, 177, 42, 27, 182, 0, 150, 42, 180, 0, 87]
abbrev dktX4_readLine_4 : List UInt8 := dkwX4_readLine_4 ++ dktX4_readLine_5
def dkwX4_readLine_3 : List UInt8 := [4, 167, 0, 20, 3, 167, 0, 16, 42, 180, 0, 60, 8, 162, 0, 7, 4, 167, 0, 4, 3, 8]
abbrev dktX4_readLine_3 : List UInt8 := dkwX4_readLine_3 ++ dktX4_readLine_4
def dkwX4_readLine_2 : List UInt8 := [162, 0, 7, 4, 167, 0, 41, 3, 167, 0, 37, 27, 8, 160, 0, 19, 42, 180, 0, 63, 7, 162, 0, 7]
abbrev dktX4_readLine_2 : List UInt8 := dkwX4_readLine_2 ++ dktX4_readLine_3
def dkwX4_readLine_1 : List UInt8 := [159, 0, 7, 4, 167, 0, 4, 3, 5, 182, 0, 125, 42, 27, 7, 160, 0, 19, 42, 180, 0, 56, 7]
abbrev dktX4_readLine_1 : List UInt8 := dkwX4_readLine_1 ++ dktX4_readLine_2
def dkwX4_readLine_0 : List UInt8 := [42, 180, 0, 111, 4, 160, 0, 10, 42, 182, 0, 147, 167, 0, 5, 16, 252, 60, 42, 27, 16, 252]
abbrev dktX4_readLine_0 : List UInt8 := dkwX4_readLine_0 ++ dktX4_readLine_1
theorem dksX4_readLine_0 : cX4_readLine.data.toList.drop 0 = dktX4_readLine_0 := by decide +kernel
theorem dksX4_readLine_1 : cX4_readLine.data.toList.drop 22 = dktX4_readLine_1 := dk_seg dksX4_readLine_0 22 rfl rfl
theorem dksX4_readLine_2 : cX4_readLine.data.toList.drop 45 = dktX4_readLine_2 := dk_seg dksX4_readLine_1 23 rfl rfl
theorem dksX4_readLine_3 : cX4_readLine.data.toList.drop 69 = dktX4_readLine_3 := dk_seg dksX4_readLine_2 24 rfl rfl
theorem dksX4_readLine_4 : cX4_readLine.data.toList.drop 91 = dktX4_readLine_4 := dk_seg dksX4_readLine_3 22 rfl rfl
theorem dksX4_readLine_5 : cX4_readLine.data.toList.drop 115 = dktX4_readLine_5 := dk_seg dksX4_readLine_4 24 rfl rfl
theorem dksX4_readLine_6 : cX4_readLine.data.toList.drop 137 = dktX4_readLine_6 := dk_seg dksX4_readLine_5 22 rfl rfl
theorem dX4_readLine_0 : decode cX4_readLine 0 = .ok (.aload_n 0, 1) := dk_42 (dk_at dksX4_readLine_0 0 rfl rfl)
theorem dX4_readLine_1 : decode cX4_readLine 1 = .ok (.getfield 111, 3) := dk_180 0 111 (dk_at dksX4_readLine_0 1 rfl rfl)
theorem dX4_readLine_4 : decode cX4_readLine 4 = .ok (.iconst 1, 1) := dk_4 (dk_at dksX4_readLine_0 4 rfl rfl)
theorem dX4_readLine_5 : decode cX4_readLine 5 = .ok (.if_icmp .ne 10, 3) := dk_160 0 10 (dk_at dksX4_readLine_0 5 rfl rfl)
theorem dX4_readLine_8 : decode cX4_readLine 8 = .ok (.aload_n 0, 1) := dk_42 (dk_at dksX4_readLine_0 8 rfl rfl)
theorem dX4_readLine_9 : decode cX4_readLine 9 = .ok (.invokevirtual 147, 3) := dk_182 0 147 (dk_at dksX4_readLine_0 9 rfl rfl)
theorem dX4_readLine_12 : decode cX4_readLine 12 = .ok (.goto 5, 3) := dk_167 0 5 (dk_at dksX4_readLine_0 12 rfl rfl)
theorem dX4_readLine_15 : decode cX4_readLine 15 = .ok (.bipush (-4), 2) := dk_16 252 (dk_at dksX4_readLine_0 15 rfl rfl)
theorem dX4_readLine_17 : decode cX4_readLine 17 = .ok (.istore_n 1, 1) := dk_60 (dk_at dksX4_readLine_0 17 rfl rfl)
theorem dX4_readLine_18 : decode cX4_readLine 18 = .ok (.aload_n 0, 1) := dk_42 (dk_at dksX4_readLine_0 18 rfl rfl)
theorem dX4_readLine_19 : decode cX4_readLine 19 = .ok (.iload_n 1, 1) := dk_27 (dk_at dksX4_readLine_0 19 rfl rfl)
theorem dX4_readLine_20 : decode cX4_readLine 20 = .ok (.bipush (-4), 2) := dk_16 252 (dk_at dksX4_readLine_0 20 rfl rfl)
theorem dX4_readLine_22 : decode cX4_readLine 22 = .ok (.if_icmp .eq 7, 3) := dk_159 0 7 (dk_at dksX4_readLine_1 0 rfl rfl)
theorem dX4_readLine_25 : decode cX4_readLine 25 = .ok (.iconst 1, 1) := dk_4 (dk_at dksX4_readLine_1 3 rfl rfl)
theorem dX4_readLine_26 : decode cX4_readLine 26 = .ok (.goto 4, 3) := dk_167 0 4 (dk_at dksX4_readLine_1 4 rfl rfl)
theorem dX4_readLine_29 : decode cX4_readLine 29 = .ok (.iconst 0, 1) := dk_3 (dk_at dksX4_readLine_1 7 rfl rfl)
theorem dX4_readLine_30 : decode cX4_readLine 30 = .ok (.iconst 2, 1) := dk_5 (dk_at dksX4_readLine_1 8 rfl rfl)
theorem dX4_readLine_31 : decode cX4_readLine 31 = .ok (.invokevirtual 125, 3) := dk_182 0 125 (dk_at dksX4_readLine_1 9 rfl rfl)
theorem dX4_readLine_34 : decode cX4_readLine 34 = .ok (.aload_n 0, 1) := dk_42 (dk_at dksX4_readLine_1 12 rfl rfl)
theorem dX4_readLine_35 : decode cX4_readLine 35 = .ok (.iload_n 1, 1) := dk_27 (dk_at dksX4_readLine_1 13 rfl rfl)
theorem dX4_readLine_36 : decode cX4_readLine 36 = .ok (.iconst 4, 1) := dk_7 (dk_at dksX4_readLine_1 14 rfl rfl)
theorem dX4_readLine_37 : decode cX4_readLine 37 = .ok (.if_icmp .ne 19, 3) := dk_160 0 19 (dk_at dksX4_readLine_1 15 rfl rfl)
theorem dX4_readLine_40 : decode cX4_readLine 40 = .ok (.aload_n 0, 1) := dk_42 (dk_at dksX4_readLine_1 18 rfl rfl)
theorem dX4_readLine_41 : decode cX4_readLine 41 = .ok (.getfield 56, 3) := dk_180 0 56 (dk_at dksX4_readLine_1 19 rfl rfl)
theorem dX4_readLine_44 : decode cX4_readLine 44 = .ok (.iconst 4, 1) := dk_7 (dk_at dksX4_readLine_1 22 rfl rfl)
theorem dX4_readLine_45 : decode cX4_readLine 45 = .ok (.if_icmp .ge 7, 3) := dk_162 0 7 (dk_at dksX4_readLine_2 0 rfl rfl)
theorem dX4_readLine_48 : decode cX4_readLine 48 = .ok (.iconst 1, 1) := dk_4 (dk_at dksX4_readLine_2 3 rfl rfl)
theorem dX4_readLine_49 : decode cX4_readLine 49 = .ok (.goto 41, 3) := dk_167 0 41 (dk_at dksX4_readLine_2 4 rfl rfl)
theorem dX4_readLine_52 : decode cX4_readLine 52 = .ok (.iconst 0, 1) := dk_3 (dk_at dksX4_readLine_2 7 rfl rfl)
theorem dX4_readLine_53 : decode cX4_readLine 53 = .ok (.goto 37, 3) := dk_167 0 37 (dk_at dksX4_readLine_2 8 rfl rfl)
theorem dX4_readLine_56 : decode cX4_readLine 56 = .ok (.iload_n 1, 1) := dk_27 (dk_at dksX4_readLine_2 11 rfl rfl)
theorem dX4_readLine_57 : decode cX4_readLine 57 = .ok (.iconst 5, 1) := dk_8 (dk_at dksX4_readLine_2 12 rfl rfl)
theorem dX4_readLine_58 : decode cX4_readLine 58 = .ok (.if_icmp .ne 19, 3) := dk_160 0 19 (dk_at dksX4_readLine_2 13 rfl rfl)
theorem dX4_readLine_61 : decode cX4_readLine 61 = .ok (.aload_n 0, 1) := dk_42 (dk_at dksX4_readLine_2 16 rfl rfl)
theorem dX4_readLine_62 : decode cX4_readLine 62 = .ok (.getfield 63, 3) := dk_180 0 63 (dk_at dksX4_readLine_2 17 rfl rfl)
theorem dX4_readLine_65 : decode cX4_readLine 65 = .ok (.iconst 4, 1) := dk_7 (dk_at dksX4_readLine_2 20 rfl rfl)
theorem dX4_readLine_66 : decode cX4_readLine 66 = .ok (.if_icmp .ge 7, 3) := dk_162 0 7 (dk_at dksX4_readLine_2 21 rfl rfl)
theorem dX4_readLine_69 : decode cX4_readLine 69 = .ok (.iconst 1, 1) := dk_4 (dk_at dksX4_readLine_3 0 rfl rfl)
theorem dX4_readLine_70 : decode cX4_readLine 70 = .ok (.goto 20, 3) := dk_167 0 20 (dk_at dksX4_readLine_3 1 rfl rfl)
theorem dX4_readLine_73 : decode cX4_readLine 73 = .ok (.iconst 0, 1) := dk_3 (dk_at dksX4_readLine_3 4 rfl rfl)
theorem dX4_readLine_74 : decode cX4_readLine 74 = .ok (.goto 16, 3) := dk_167 0 16 (dk_at dksX4_readLine_3 5 rfl rfl)
theorem dX4_readLine_77 : decode cX4_readLine 77 = .ok (.aload_n 0, 1) := dk_42 (dk_at dksX4_readLine_3 8 rfl rfl)
theorem dX4_readLine_78 : decode cX4_readLine 78 = .ok (.getfield 60, 3) := dk_180 0 60 (dk_at dksX4_readLine_3 9 rfl rfl)
theorem dX4_readLine_81 : decode cX4_readLine 81 = .ok (.iconst 5, 1) := dk_8 (dk_at dksX4_readLine_3 12 rfl rfl)
theorem dX4_readLine_82 : decode cX4_readLine 82 = .ok (.if_icmp .ge 7, 3) := dk_162 0 7 (dk_at dksX4_readLine_3 13 rfl rfl)
theorem dX4_readLine_85 : decode cX4_readLine 85 = .ok (.iconst 1, 1) := dk_4 (dk_at dksX4_readLine_3 16 rfl rfl)
theorem dX4_readLine_86 : decode cX4_readLine 86 = .ok (.goto 4, 3) := dk_167 0 4 (dk_at dksX4_readLine_3 17 rfl rfl)
theorem dX4_readLine_89 : decode cX4_readLine 89 = .ok (.iconst 0, 1) := dk_3 (dk_at dksX4_readLine_3 20 rfl rfl)
theorem dX4_readLine_90 : decode cX4_readLine 90 = .ok (.iconst 5, 1) := dk_8 (dk_at dksX4_readLine_3 21 rfl rfl)
theorem dX4_readLine_91 : decode cX4_readLine 91 = .ok (.invokevirtual 125, 3) := dk_182 0 125 (dk_at dksX4_readLine_4 0 rfl rfl)
theorem dX4_readLine_94 : decode cX4_readLine 94 = .ok (.aload_n 0, 1) := dk_42 (dk_at dksX4_readLine_4 3 rfl rfl)
theorem dX4_readLine_95 : decode cX4_readLine 95 = .ok (.invokevirtual 129, 3) := dk_182 0 129 (dk_at dksX4_readLine_4 4 rfl rfl)
theorem dX4_readLine_98 : decode cX4_readLine 98 = .ok (.aload_n 0, 1) := dk_42 (dk_at dksX4_readLine_4 7 rfl rfl)
theorem dX4_readLine_99 : decode cX4_readLine 99 = .ok (.getfield 87, 3) := dk_180 0 87 (dk_at dksX4_readLine_4 8 rfl rfl)
theorem dX4_readLine_102 : decode cX4_readLine 102 = .ok (.ifCond .le 4, 3) := dk_158 0 4 (dk_at dksX4_readLine_4 11 rfl rfl)
theorem dX4_readLine_105 : decode cX4_readLine 105 = .ok (.return_, 1) := dk_177 (dk_at dksX4_readLine_4 14 rfl rfl)
theorem dX4_readLine_106 : decode cX4_readLine 106 = .ok (.aload_n 0, 1) := dk_42 (dk_at dksX4_readLine_4 15 rfl rfl)
theorem dX4_readLine_107 : decode cX4_readLine 107 = .ok (.iload_n 1, 1) := dk_27 (dk_at dksX4_readLine_4 16 rfl rfl)
theorem dX4_readLine_108 : decode cX4_readLine 108 = .ok (.invokevirtual 150, 3) := dk_182 0 150 (dk_at dksX4_readLine_4 17 rfl rfl)
theorem dX4_readLine_111 : decode cX4_readLine 111 = .ok (.aload_n 0, 1) := dk_42 (dk_at dksX4_readLine_4 20 rfl rfl)
theorem dX4_readLine_112 : decode cX4_readLine 112 = .ok (.getfield 87, 3) := dk_180 0 87 (dk_at dksX4_readLine_4 21 rfl rfl)
theorem dX4_readLine_115 : decode cX4_readLine 115 = .ok (.ifCond .ne 21, 3) := dk_154 0 21 (dk_at dksX4_readLine_5 0 rfl rfl)
theorem dX4_readLine_118 : decode cX4_readLine 118 = .ok (.aload_n 0, 1) := dk_42 (dk_at dksX4_readLine_5 3 rfl rfl)
theorem dX4_readLine_119 : decode cX4_readLine 119 = .ok (.aload_n 0, 1) := dk_42 (dk_at dksX4_readLine_5 4 rfl rfl)
theorem dX4_readLine_120 : decode cX4_readLine 120 = .ok (.getfield 111, 3) := dk_180 0 111 (dk_at dksX4_readLine_5 5 rfl rfl)
theorem dX4_readLine_123 : decode cX4_readLine 123 = .ok (.iconst 3, 1) := dk_6 (dk_at dksX4_readLine_5 8 rfl rfl)
theorem dX4_readLine_124 : decode cX4_readLine 124 = .ok (.if_icmp .ne 7, 3) := dk_160 0 7 (dk_at dksX4_readLine_5 9 rfl rfl)
theorem dX4_readLine_127 : decode cX4_readLine 127 = .ok (.iconst 1, 1) := dk_4 (dk_at dksX4_readLine_5 12 rfl rfl)
theorem dX4_readLine_128 : decode cX4_readLine 128 = .ok (.goto 4, 3) := dk_167 0 4 (dk_at dksX4_readLine_5 13 rfl rfl)
theorem dX4_readLine_131 : decode cX4_readLine 131 = .ok (.iconst 0, 1) := dk_3 (dk_at dksX4_readLine_5 16 rfl rfl)
theorem dX4_readLine_132 : decode cX4_readLine 132 = .ok (.iconst 2, 1) := dk_5 (dk_at dksX4_readLine_5 17 rfl rfl)
theorem dX4_readLine_133 : decode cX4_readLine 133 = .ok (.invokevirtual 125, 3) := dk_182 0 125 (dk_at dksX4_readLine_5 18 rfl rfl)
theorem dX4_readLine_136 : decode cX4_readLine 136 = .ok (.aload_n 0, 1) := dk_42 (dk_at dksX4_readLine_5 21 rfl rfl)
theorem dX4_readLine_137 : decode cX4_readLine 137 = .ok (.invokevirtual 129, 3) := dk_182 0 129 (dk_at dksX4_readLine_6 0 rfl rfl)
theorem dX4_readLine_140 : decode cX4_readLine 140 = .ok (.return_, 1) := dk_177 (dk_at dksX4_readLine_6 3 rfl rfl)
abbrev cX4_lineNow : ByteArray := prog_13_method_13_code
def yX4_lineNow : MethodName := ⟨RX4, "lineNow", "()I"⟩
def dkwX4_lineNow_6 : List UInt8 := [42, 16, 101, 16, 114, 182, 0, 107, 153, 0, 7, 8, 167, 0, 5, 16, 252, 172]
abbrev dktX4_lineNow_6 : List UInt8 := dkwX4_lineNow_6 ++ []
def dkwX4_lineNow_5 : List UInt8 := [182, 0, 103, 153, 0, 7, 7, 167, 0, 34, 42, 8, 16, 111, 16, 114, 16, 100, 182, 0, 103, 153, 0, 18]
abbrev dktX4_lineNow_5 : List UInt8 := dkwX4_lineNow_5 ++ dktX4_lineNow_6
def dkwX4_lineNow_4 : List UInt8 := [153, 0, 15, 42, 16, 100, 3, 182, 0, 107, 153, 0, 5, 6, 172, 42, 6, 16, 112, 16, 101, 16, 110]
abbrev dktX4_lineNow_4 : List UInt8 := dkwX4_lineNow_4 ++ dktX4_lineNow_5
def dkwX4_lineNow_3 : List UInt8 := [16, 116, 3, 182, 0, 107, 153, 0, 5, 5, 172, 42, 7, 16, 119, 16, 105, 16, 108, 182, 0, 103]
abbrev dktX4_lineNow_3 : List UInt8 := dkwX4_lineNow_3 ++ dktX4_lineNow_4
def dkwX4_lineNow_2 : List UInt8 := [182, 0, 107, 153, 0, 5, 4, 172, 42, 7, 16, 114, 16, 117, 16, 110, 182, 0, 103, 153, 0, 15, 42]
abbrev dktX4_lineNow_2 : List UInt8 := dkwX4_lineNow_2 ++ dktX4_lineNow_3
def dkwX4_lineNow_1 : List UInt8 := [153, 0, 5, 3, 172, 42, 7, 16, 116, 16, 119, 16, 105, 182, 0, 103, 153, 0, 15, 42, 16, 110, 3]
abbrev dktX4_lineNow_1 : List UInt8 := dkwX4_lineNow_1 ++ dktX4_lineNow_2
def dkwX4_lineNow_0 : List UInt8 := [42, 8, 16, 112, 16, 108, 16, 97, 182, 0, 103, 153, 0, 16, 42, 16, 105, 16, 110, 182, 0, 107]
abbrev dktX4_lineNow_0 : List UInt8 := dkwX4_lineNow_0 ++ dktX4_lineNow_1
theorem dksX4_lineNow_0 : cX4_lineNow.data.toList.drop 0 = dktX4_lineNow_0 := by decide +kernel
theorem dksX4_lineNow_1 : cX4_lineNow.data.toList.drop 22 = dktX4_lineNow_1 := dk_seg dksX4_lineNow_0 22 rfl rfl
theorem dksX4_lineNow_2 : cX4_lineNow.data.toList.drop 45 = dktX4_lineNow_2 := dk_seg dksX4_lineNow_1 23 rfl rfl
theorem dksX4_lineNow_3 : cX4_lineNow.data.toList.drop 68 = dktX4_lineNow_3 := dk_seg dksX4_lineNow_2 23 rfl rfl
theorem dksX4_lineNow_4 : cX4_lineNow.data.toList.drop 90 = dktX4_lineNow_4 := dk_seg dksX4_lineNow_3 22 rfl rfl
theorem dksX4_lineNow_5 : cX4_lineNow.data.toList.drop 113 = dktX4_lineNow_5 := dk_seg dksX4_lineNow_4 23 rfl rfl
theorem dksX4_lineNow_6 : cX4_lineNow.data.toList.drop 137 = dktX4_lineNow_6 := dk_seg dksX4_lineNow_5 24 rfl rfl
theorem dX4_lineNow_0 : decode cX4_lineNow 0 = .ok (.aload_n 0, 1) := dk_42 (dk_at dksX4_lineNow_0 0 rfl rfl)
theorem dX4_lineNow_1 : decode cX4_lineNow 1 = .ok (.iconst 5, 1) := dk_8 (dk_at dksX4_lineNow_0 1 rfl rfl)
theorem dX4_lineNow_2 : decode cX4_lineNow 2 = .ok (.bipush 112, 2) := dk_16 112 (dk_at dksX4_lineNow_0 2 rfl rfl)
theorem dX4_lineNow_4 : decode cX4_lineNow 4 = .ok (.bipush 108, 2) := dk_16 108 (dk_at dksX4_lineNow_0 4 rfl rfl)
theorem dX4_lineNow_6 : decode cX4_lineNow 6 = .ok (.bipush 97, 2) := dk_16 97 (dk_at dksX4_lineNow_0 6 rfl rfl)
theorem dX4_lineNow_8 : decode cX4_lineNow 8 = .ok (.invokevirtual 103, 3) := dk_182 0 103 (dk_at dksX4_lineNow_0 8 rfl rfl)
theorem dX4_lineNow_11 : decode cX4_lineNow 11 = .ok (.ifCond .eq 16, 3) := dk_153 0 16 (dk_at dksX4_lineNow_0 11 rfl rfl)
theorem dX4_lineNow_14 : decode cX4_lineNow 14 = .ok (.aload_n 0, 1) := dk_42 (dk_at dksX4_lineNow_0 14 rfl rfl)
theorem dX4_lineNow_15 : decode cX4_lineNow 15 = .ok (.bipush 105, 2) := dk_16 105 (dk_at dksX4_lineNow_0 15 rfl rfl)
theorem dX4_lineNow_17 : decode cX4_lineNow 17 = .ok (.bipush 110, 2) := dk_16 110 (dk_at dksX4_lineNow_0 17 rfl rfl)
theorem dX4_lineNow_19 : decode cX4_lineNow 19 = .ok (.invokevirtual 107, 3) := dk_182 0 107 (dk_at dksX4_lineNow_0 19 rfl rfl)
theorem dX4_lineNow_22 : decode cX4_lineNow 22 = .ok (.ifCond .eq 5, 3) := dk_153 0 5 (dk_at dksX4_lineNow_1 0 rfl rfl)
theorem dX4_lineNow_25 : decode cX4_lineNow 25 = .ok (.iconst 0, 1) := dk_3 (dk_at dksX4_lineNow_1 3 rfl rfl)
theorem dX4_lineNow_26 : decode cX4_lineNow 26 = .ok (.ireturn, 1) := dk_172 (dk_at dksX4_lineNow_1 4 rfl rfl)
theorem dX4_lineNow_27 : decode cX4_lineNow 27 = .ok (.aload_n 0, 1) := dk_42 (dk_at dksX4_lineNow_1 5 rfl rfl)
theorem dX4_lineNow_28 : decode cX4_lineNow 28 = .ok (.iconst 4, 1) := dk_7 (dk_at dksX4_lineNow_1 6 rfl rfl)
theorem dX4_lineNow_29 : decode cX4_lineNow 29 = .ok (.bipush 116, 2) := dk_16 116 (dk_at dksX4_lineNow_1 7 rfl rfl)
theorem dX4_lineNow_31 : decode cX4_lineNow 31 = .ok (.bipush 119, 2) := dk_16 119 (dk_at dksX4_lineNow_1 9 rfl rfl)
theorem dX4_lineNow_33 : decode cX4_lineNow 33 = .ok (.bipush 105, 2) := dk_16 105 (dk_at dksX4_lineNow_1 11 rfl rfl)
theorem dX4_lineNow_35 : decode cX4_lineNow 35 = .ok (.invokevirtual 103, 3) := dk_182 0 103 (dk_at dksX4_lineNow_1 13 rfl rfl)
theorem dX4_lineNow_38 : decode cX4_lineNow 38 = .ok (.ifCond .eq 15, 3) := dk_153 0 15 (dk_at dksX4_lineNow_1 16 rfl rfl)
theorem dX4_lineNow_41 : decode cX4_lineNow 41 = .ok (.aload_n 0, 1) := dk_42 (dk_at dksX4_lineNow_1 19 rfl rfl)
theorem dX4_lineNow_42 : decode cX4_lineNow 42 = .ok (.bipush 110, 2) := dk_16 110 (dk_at dksX4_lineNow_1 20 rfl rfl)
theorem dX4_lineNow_44 : decode cX4_lineNow 44 = .ok (.iconst 0, 1) := dk_3 (dk_at dksX4_lineNow_1 22 rfl rfl)
theorem dX4_lineNow_45 : decode cX4_lineNow 45 = .ok (.invokevirtual 107, 3) := dk_182 0 107 (dk_at dksX4_lineNow_2 0 rfl rfl)
theorem dX4_lineNow_48 : decode cX4_lineNow 48 = .ok (.ifCond .eq 5, 3) := dk_153 0 5 (dk_at dksX4_lineNow_2 3 rfl rfl)
theorem dX4_lineNow_51 : decode cX4_lineNow 51 = .ok (.iconst 1, 1) := dk_4 (dk_at dksX4_lineNow_2 6 rfl rfl)
theorem dX4_lineNow_52 : decode cX4_lineNow 52 = .ok (.ireturn, 1) := dk_172 (dk_at dksX4_lineNow_2 7 rfl rfl)
theorem dX4_lineNow_53 : decode cX4_lineNow 53 = .ok (.aload_n 0, 1) := dk_42 (dk_at dksX4_lineNow_2 8 rfl rfl)
theorem dX4_lineNow_54 : decode cX4_lineNow 54 = .ok (.iconst 4, 1) := dk_7 (dk_at dksX4_lineNow_2 9 rfl rfl)
theorem dX4_lineNow_55 : decode cX4_lineNow 55 = .ok (.bipush 114, 2) := dk_16 114 (dk_at dksX4_lineNow_2 10 rfl rfl)
theorem dX4_lineNow_57 : decode cX4_lineNow 57 = .ok (.bipush 117, 2) := dk_16 117 (dk_at dksX4_lineNow_2 12 rfl rfl)
theorem dX4_lineNow_59 : decode cX4_lineNow 59 = .ok (.bipush 110, 2) := dk_16 110 (dk_at dksX4_lineNow_2 14 rfl rfl)
theorem dX4_lineNow_61 : decode cX4_lineNow 61 = .ok (.invokevirtual 103, 3) := dk_182 0 103 (dk_at dksX4_lineNow_2 16 rfl rfl)
theorem dX4_lineNow_64 : decode cX4_lineNow 64 = .ok (.ifCond .eq 15, 3) := dk_153 0 15 (dk_at dksX4_lineNow_2 19 rfl rfl)
theorem dX4_lineNow_67 : decode cX4_lineNow 67 = .ok (.aload_n 0, 1) := dk_42 (dk_at dksX4_lineNow_2 22 rfl rfl)
theorem dX4_lineNow_68 : decode cX4_lineNow 68 = .ok (.bipush 116, 2) := dk_16 116 (dk_at dksX4_lineNow_3 0 rfl rfl)
theorem dX4_lineNow_70 : decode cX4_lineNow 70 = .ok (.iconst 0, 1) := dk_3 (dk_at dksX4_lineNow_3 2 rfl rfl)
theorem dX4_lineNow_71 : decode cX4_lineNow 71 = .ok (.invokevirtual 107, 3) := dk_182 0 107 (dk_at dksX4_lineNow_3 3 rfl rfl)
theorem dX4_lineNow_74 : decode cX4_lineNow 74 = .ok (.ifCond .eq 5, 3) := dk_153 0 5 (dk_at dksX4_lineNow_3 6 rfl rfl)
theorem dX4_lineNow_77 : decode cX4_lineNow 77 = .ok (.iconst 2, 1) := dk_5 (dk_at dksX4_lineNow_3 9 rfl rfl)
theorem dX4_lineNow_78 : decode cX4_lineNow 78 = .ok (.ireturn, 1) := dk_172 (dk_at dksX4_lineNow_3 10 rfl rfl)
theorem dX4_lineNow_79 : decode cX4_lineNow 79 = .ok (.aload_n 0, 1) := dk_42 (dk_at dksX4_lineNow_3 11 rfl rfl)
theorem dX4_lineNow_80 : decode cX4_lineNow 80 = .ok (.iconst 4, 1) := dk_7 (dk_at dksX4_lineNow_3 12 rfl rfl)
theorem dX4_lineNow_81 : decode cX4_lineNow 81 = .ok (.bipush 119, 2) := dk_16 119 (dk_at dksX4_lineNow_3 13 rfl rfl)
theorem dX4_lineNow_83 : decode cX4_lineNow 83 = .ok (.bipush 105, 2) := dk_16 105 (dk_at dksX4_lineNow_3 15 rfl rfl)
theorem dX4_lineNow_85 : decode cX4_lineNow 85 = .ok (.bipush 108, 2) := dk_16 108 (dk_at dksX4_lineNow_3 17 rfl rfl)
theorem dX4_lineNow_87 : decode cX4_lineNow 87 = .ok (.invokevirtual 103, 3) := dk_182 0 103 (dk_at dksX4_lineNow_3 19 rfl rfl)
theorem dX4_lineNow_90 : decode cX4_lineNow 90 = .ok (.ifCond .eq 15, 3) := dk_153 0 15 (dk_at dksX4_lineNow_4 0 rfl rfl)
theorem dX4_lineNow_93 : decode cX4_lineNow 93 = .ok (.aload_n 0, 1) := dk_42 (dk_at dksX4_lineNow_4 3 rfl rfl)
theorem dX4_lineNow_94 : decode cX4_lineNow 94 = .ok (.bipush 100, 2) := dk_16 100 (dk_at dksX4_lineNow_4 4 rfl rfl)
theorem dX4_lineNow_96 : decode cX4_lineNow 96 = .ok (.iconst 0, 1) := dk_3 (dk_at dksX4_lineNow_4 6 rfl rfl)
theorem dX4_lineNow_97 : decode cX4_lineNow 97 = .ok (.invokevirtual 107, 3) := dk_182 0 107 (dk_at dksX4_lineNow_4 7 rfl rfl)
theorem dX4_lineNow_100 : decode cX4_lineNow 100 = .ok (.ifCond .eq 5, 3) := dk_153 0 5 (dk_at dksX4_lineNow_4 10 rfl rfl)
theorem dX4_lineNow_103 : decode cX4_lineNow 103 = .ok (.iconst 3, 1) := dk_6 (dk_at dksX4_lineNow_4 13 rfl rfl)
theorem dX4_lineNow_104 : decode cX4_lineNow 104 = .ok (.ireturn, 1) := dk_172 (dk_at dksX4_lineNow_4 14 rfl rfl)
theorem dX4_lineNow_105 : decode cX4_lineNow 105 = .ok (.aload_n 0, 1) := dk_42 (dk_at dksX4_lineNow_4 15 rfl rfl)
theorem dX4_lineNow_106 : decode cX4_lineNow 106 = .ok (.iconst 3, 1) := dk_6 (dk_at dksX4_lineNow_4 16 rfl rfl)
theorem dX4_lineNow_107 : decode cX4_lineNow 107 = .ok (.bipush 112, 2) := dk_16 112 (dk_at dksX4_lineNow_4 17 rfl rfl)
theorem dX4_lineNow_109 : decode cX4_lineNow 109 = .ok (.bipush 101, 2) := dk_16 101 (dk_at dksX4_lineNow_4 19 rfl rfl)
theorem dX4_lineNow_111 : decode cX4_lineNow 111 = .ok (.bipush 110, 2) := dk_16 110 (dk_at dksX4_lineNow_4 21 rfl rfl)
theorem dX4_lineNow_113 : decode cX4_lineNow 113 = .ok (.invokevirtual 103, 3) := dk_182 0 103 (dk_at dksX4_lineNow_5 0 rfl rfl)
theorem dX4_lineNow_116 : decode cX4_lineNow 116 = .ok (.ifCond .eq 7, 3) := dk_153 0 7 (dk_at dksX4_lineNow_5 3 rfl rfl)
theorem dX4_lineNow_119 : decode cX4_lineNow 119 = .ok (.iconst 4, 1) := dk_7 (dk_at dksX4_lineNow_5 6 rfl rfl)
theorem dX4_lineNow_120 : decode cX4_lineNow 120 = .ok (.goto 34, 3) := dk_167 0 34 (dk_at dksX4_lineNow_5 7 rfl rfl)
theorem dX4_lineNow_123 : decode cX4_lineNow 123 = .ok (.aload_n 0, 1) := dk_42 (dk_at dksX4_lineNow_5 10 rfl rfl)
theorem dX4_lineNow_124 : decode cX4_lineNow 124 = .ok (.iconst 5, 1) := dk_8 (dk_at dksX4_lineNow_5 11 rfl rfl)
theorem dX4_lineNow_125 : decode cX4_lineNow 125 = .ok (.bipush 111, 2) := dk_16 111 (dk_at dksX4_lineNow_5 12 rfl rfl)
theorem dX4_lineNow_127 : decode cX4_lineNow 127 = .ok (.bipush 114, 2) := dk_16 114 (dk_at dksX4_lineNow_5 14 rfl rfl)
theorem dX4_lineNow_129 : decode cX4_lineNow 129 = .ok (.bipush 100, 2) := dk_16 100 (dk_at dksX4_lineNow_5 16 rfl rfl)
theorem dX4_lineNow_131 : decode cX4_lineNow 131 = .ok (.invokevirtual 103, 3) := dk_182 0 103 (dk_at dksX4_lineNow_5 18 rfl rfl)
theorem dX4_lineNow_134 : decode cX4_lineNow 134 = .ok (.ifCond .eq 18, 3) := dk_153 0 18 (dk_at dksX4_lineNow_5 21 rfl rfl)
theorem dX4_lineNow_137 : decode cX4_lineNow 137 = .ok (.aload_n 0, 1) := dk_42 (dk_at dksX4_lineNow_6 0 rfl rfl)
theorem dX4_lineNow_138 : decode cX4_lineNow 138 = .ok (.bipush 101, 2) := dk_16 101 (dk_at dksX4_lineNow_6 1 rfl rfl)
theorem dX4_lineNow_140 : decode cX4_lineNow 140 = .ok (.bipush 114, 2) := dk_16 114 (dk_at dksX4_lineNow_6 3 rfl rfl)
theorem dX4_lineNow_142 : decode cX4_lineNow 142 = .ok (.invokevirtual 107, 3) := dk_182 0 107 (dk_at dksX4_lineNow_6 5 rfl rfl)
theorem dX4_lineNow_145 : decode cX4_lineNow 145 = .ok (.ifCond .eq 7, 3) := dk_153 0 7 (dk_at dksX4_lineNow_6 8 rfl rfl)
theorem dX4_lineNow_148 : decode cX4_lineNow 148 = .ok (.iconst 5, 1) := dk_8 (dk_at dksX4_lineNow_6 11 rfl rfl)
theorem dX4_lineNow_149 : decode cX4_lineNow 149 = .ok (.goto 5, 3) := dk_167 0 5 (dk_at dksX4_lineNow_6 12 rfl rfl)
theorem dX4_lineNow_152 : decode cX4_lineNow 152 = .ok (.bipush (-4), 2) := dk_16 252 (dk_at dksX4_lineNow_6 15 rfl rfl)
theorem dX4_lineNow_154 : decode cX4_lineNow 154 = .ok (.ireturn, 1) := dk_172 (dk_at dksX4_lineNow_6 17 rfl rfl)
abbrev cX4_is : ByteArray := prog_13_method_11_code
def yX4_is : MethodName := ⟨RX4, "is", "(IIII)Z"⟩
def dkwX4_is_2 : List UInt8 := [182, 0, 99, 21, 4, 160, 0, 7, 4, 167, 0, 4, 3, 172]
abbrev dktX4_is_2 : List UInt8 := dkwX4_is_2 ++ []
def dkwX4_is_1 : List UInt8 := [160, 0, 36, 42, 42, 180, 0, 90, 4, 96, 182, 0, 99, 29, 160, 0, 22, 42, 42, 180, 0, 90, 5, 96]
abbrev dktX4_is_1 : List UInt8 := dkwX4_is_1 ++ dktX4_is_2
def dkwX4_is_0 : List UInt8 := [42, 180, 0, 96, 42, 180, 0, 90, 100, 27, 160, 0, 48, 42, 42, 180, 0, 90, 182, 0, 99, 28]
abbrev dktX4_is_0 : List UInt8 := dkwX4_is_0 ++ dktX4_is_1
theorem dksX4_is_0 : cX4_is.data.toList.drop 0 = dktX4_is_0 := by decide +kernel
theorem dksX4_is_1 : cX4_is.data.toList.drop 22 = dktX4_is_1 := dk_seg dksX4_is_0 22 rfl rfl
theorem dksX4_is_2 : cX4_is.data.toList.drop 46 = dktX4_is_2 := dk_seg dksX4_is_1 24 rfl rfl
theorem dX4_is_0 : decode cX4_is 0 = .ok (.aload_n 0, 1) := dk_42 (dk_at dksX4_is_0 0 rfl rfl)
theorem dX4_is_1 : decode cX4_is 1 = .ok (.getfield 96, 3) := dk_180 0 96 (dk_at dksX4_is_0 1 rfl rfl)
theorem dX4_is_4 : decode cX4_is 4 = .ok (.aload_n 0, 1) := dk_42 (dk_at dksX4_is_0 4 rfl rfl)
theorem dX4_is_5 : decode cX4_is 5 = .ok (.getfield 90, 3) := dk_180 0 90 (dk_at dksX4_is_0 5 rfl rfl)
theorem dX4_is_8 : decode cX4_is 8 = .ok (.isub, 1) := dk_100 (dk_at dksX4_is_0 8 rfl rfl)
theorem dX4_is_9 : decode cX4_is 9 = .ok (.iload_n 1, 1) := dk_27 (dk_at dksX4_is_0 9 rfl rfl)
theorem dX4_is_10 : decode cX4_is 10 = .ok (.if_icmp .ne 48, 3) := dk_160 0 48 (dk_at dksX4_is_0 10 rfl rfl)
theorem dX4_is_13 : decode cX4_is 13 = .ok (.aload_n 0, 1) := dk_42 (dk_at dksX4_is_0 13 rfl rfl)
theorem dX4_is_14 : decode cX4_is 14 = .ok (.aload_n 0, 1) := dk_42 (dk_at dksX4_is_0 14 rfl rfl)
theorem dX4_is_15 : decode cX4_is 15 = .ok (.getfield 90, 3) := dk_180 0 90 (dk_at dksX4_is_0 15 rfl rfl)
theorem dX4_is_18 : decode cX4_is 18 = .ok (.invokevirtual 99, 3) := dk_182 0 99 (dk_at dksX4_is_0 18 rfl rfl)
theorem dX4_is_21 : decode cX4_is 21 = .ok (.iload_n 2, 1) := dk_28 (dk_at dksX4_is_0 21 rfl rfl)
theorem dX4_is_22 : decode cX4_is 22 = .ok (.if_icmp .ne 36, 3) := dk_160 0 36 (dk_at dksX4_is_1 0 rfl rfl)
theorem dX4_is_25 : decode cX4_is 25 = .ok (.aload_n 0, 1) := dk_42 (dk_at dksX4_is_1 3 rfl rfl)
theorem dX4_is_26 : decode cX4_is 26 = .ok (.aload_n 0, 1) := dk_42 (dk_at dksX4_is_1 4 rfl rfl)
theorem dX4_is_27 : decode cX4_is 27 = .ok (.getfield 90, 3) := dk_180 0 90 (dk_at dksX4_is_1 5 rfl rfl)
theorem dX4_is_30 : decode cX4_is 30 = .ok (.iconst 1, 1) := dk_4 (dk_at dksX4_is_1 8 rfl rfl)
theorem dX4_is_31 : decode cX4_is 31 = .ok (.iadd, 1) := dk_96 (dk_at dksX4_is_1 9 rfl rfl)
theorem dX4_is_32 : decode cX4_is 32 = .ok (.invokevirtual 99, 3) := dk_182 0 99 (dk_at dksX4_is_1 10 rfl rfl)
theorem dX4_is_35 : decode cX4_is 35 = .ok (.iload_n 3, 1) := dk_29 (dk_at dksX4_is_1 13 rfl rfl)
theorem dX4_is_36 : decode cX4_is 36 = .ok (.if_icmp .ne 22, 3) := dk_160 0 22 (dk_at dksX4_is_1 14 rfl rfl)
theorem dX4_is_39 : decode cX4_is 39 = .ok (.aload_n 0, 1) := dk_42 (dk_at dksX4_is_1 17 rfl rfl)
theorem dX4_is_40 : decode cX4_is 40 = .ok (.aload_n 0, 1) := dk_42 (dk_at dksX4_is_1 18 rfl rfl)
theorem dX4_is_41 : decode cX4_is 41 = .ok (.getfield 90, 3) := dk_180 0 90 (dk_at dksX4_is_1 19 rfl rfl)
theorem dX4_is_44 : decode cX4_is 44 = .ok (.iconst 2, 1) := dk_5 (dk_at dksX4_is_1 22 rfl rfl)
theorem dX4_is_45 : decode cX4_is 45 = .ok (.iadd, 1) := dk_96 (dk_at dksX4_is_1 23 rfl rfl)
theorem dX4_is_46 : decode cX4_is 46 = .ok (.invokevirtual 99, 3) := dk_182 0 99 (dk_at dksX4_is_2 0 rfl rfl)
theorem dX4_is_49 : decode cX4_is 49 = .ok (.iload 4, 2) := dk_21 4 (dk_at dksX4_is_2 3 rfl rfl)
theorem dX4_is_51 : decode cX4_is 51 = .ok (.if_icmp .ne 7, 3) := dk_160 0 7 (dk_at dksX4_is_2 5 rfl rfl)
theorem dX4_is_54 : decode cX4_is 54 = .ok (.iconst 1, 1) := dk_4 (dk_at dksX4_is_2 8 rfl rfl)
theorem dX4_is_55 : decode cX4_is 55 = .ok (.goto 4, 3) := dk_167 0 4 (dk_at dksX4_is_2 9 rfl rfl)
theorem dX4_is_58 : decode cX4_is 58 = .ok (.iconst 0, 1) := dk_3 (dk_at dksX4_is_2 12 rfl rfl)
theorem dX4_is_59 : decode cX4_is 59 = .ok (.ireturn, 1) := dk_172 (dk_at dksX4_is_2 13 rfl rfl)
abbrev cX4_ends : ByteArray := prog_13_method_12_code
def yX4_ends : MethodName := ⟨RX4, "ends", "(II)Z"⟩
def dkwX4_ends_1 : List UInt8 := [96, 182, 0, 99, 28, 160, 0, 7, 4, 167, 0, 4, 3, 172]
abbrev dktX4_ends_1 : List UInt8 := dkwX4_ends_1 ++ []
def dkwX4_ends_0 : List UInt8 := [42, 42, 180, 0, 90, 6, 96, 182, 0, 99, 27, 160, 0, 25, 28, 153, 0, 17, 42, 42, 180, 0, 90, 7]
abbrev dktX4_ends_0 : List UInt8 := dkwX4_ends_0 ++ dktX4_ends_1
theorem dksX4_ends_0 : cX4_ends.data.toList.drop 0 = dktX4_ends_0 := by decide +kernel
theorem dksX4_ends_1 : cX4_ends.data.toList.drop 24 = dktX4_ends_1 := dk_seg dksX4_ends_0 24 rfl rfl
theorem dX4_ends_0 : decode cX4_ends 0 = .ok (.aload_n 0, 1) := dk_42 (dk_at dksX4_ends_0 0 rfl rfl)
theorem dX4_ends_1 : decode cX4_ends 1 = .ok (.aload_n 0, 1) := dk_42 (dk_at dksX4_ends_0 1 rfl rfl)
theorem dX4_ends_2 : decode cX4_ends 2 = .ok (.getfield 90, 3) := dk_180 0 90 (dk_at dksX4_ends_0 2 rfl rfl)
theorem dX4_ends_5 : decode cX4_ends 5 = .ok (.iconst 3, 1) := dk_6 (dk_at dksX4_ends_0 5 rfl rfl)
theorem dX4_ends_6 : decode cX4_ends 6 = .ok (.iadd, 1) := dk_96 (dk_at dksX4_ends_0 6 rfl rfl)
theorem dX4_ends_7 : decode cX4_ends 7 = .ok (.invokevirtual 99, 3) := dk_182 0 99 (dk_at dksX4_ends_0 7 rfl rfl)
theorem dX4_ends_10 : decode cX4_ends 10 = .ok (.iload_n 1, 1) := dk_27 (dk_at dksX4_ends_0 10 rfl rfl)
theorem dX4_ends_11 : decode cX4_ends 11 = .ok (.if_icmp .ne 25, 3) := dk_160 0 25 (dk_at dksX4_ends_0 11 rfl rfl)
theorem dX4_ends_14 : decode cX4_ends 14 = .ok (.iload_n 2, 1) := dk_28 (dk_at dksX4_ends_0 14 rfl rfl)
theorem dX4_ends_15 : decode cX4_ends 15 = .ok (.ifCond .eq 17, 3) := dk_153 0 17 (dk_at dksX4_ends_0 15 rfl rfl)
theorem dX4_ends_18 : decode cX4_ends 18 = .ok (.aload_n 0, 1) := dk_42 (dk_at dksX4_ends_0 18 rfl rfl)
theorem dX4_ends_19 : decode cX4_ends 19 = .ok (.aload_n 0, 1) := dk_42 (dk_at dksX4_ends_0 19 rfl rfl)
theorem dX4_ends_20 : decode cX4_ends 20 = .ok (.getfield 90, 3) := dk_180 0 90 (dk_at dksX4_ends_0 20 rfl rfl)
theorem dX4_ends_23 : decode cX4_ends 23 = .ok (.iconst 4, 1) := dk_7 (dk_at dksX4_ends_0 23 rfl rfl)
theorem dX4_ends_24 : decode cX4_ends 24 = .ok (.iadd, 1) := dk_96 (dk_at dksX4_ends_1 0 rfl rfl)
theorem dX4_ends_25 : decode cX4_ends 25 = .ok (.invokevirtual 99, 3) := dk_182 0 99 (dk_at dksX4_ends_1 1 rfl rfl)
theorem dX4_ends_28 : decode cX4_ends 28 = .ok (.iload_n 2, 1) := dk_28 (dk_at dksX4_ends_1 4 rfl rfl)
theorem dX4_ends_29 : decode cX4_ends 29 = .ok (.if_icmp .ne 7, 3) := dk_160 0 7 (dk_at dksX4_ends_1 5 rfl rfl)
theorem dX4_ends_32 : decode cX4_ends 32 = .ok (.iconst 1, 1) := dk_4 (dk_at dksX4_ends_1 8 rfl rfl)
theorem dX4_ends_33 : decode cX4_ends 33 = .ok (.goto 4, 3) := dk_167 0 4 (dk_at dksX4_ends_1 9 rfl rfl)
theorem dX4_ends_36 : decode cX4_ends 36 = .ok (.iconst 0, 1) := dk_3 (dk_at dksX4_ends_1 12 rfl rfl)
theorem dX4_ends_37 : decode cX4_ends 37 = .ok (.ireturn, 1) := dk_172 (dk_at dksX4_ends_1 13 rfl rfl)
abbrev cX4_readLineOf : ByteArray := prog_13_method_19_code
def yX4_readLineOf : MethodName := ⟨RX4, "readLineOf", "(I)V"⟩
def dkwX4_readLineOf_9 : List UInt8 := [96, 46, 167, 0, 7, 42, 180, 0, 66, 181, 0, 66, 42, 89, 180, 0, 60, 4, 96, 181, 0, 60, 177]
abbrev dktX4_readLineOf_9 : List UInt8 := dkwX4_readLineOf_9 ++ []
def dkwX4_readLineOf_8 : List UInt8 := [154, 0, 29, 42, 180, 0, 23, 28, 5, 96, 46, 42, 180, 0, 66, 164, 0, 14, 42, 180, 0, 23, 28, 5]
abbrev dktX4_readLineOf_8 : List UInt8 := dkwX4_readLineOf_8 ++ dktX4_readLineOf_9
def dkwX4_readLineOf_7 : List UInt8 := [182, 0, 139, 79, 42, 180, 0, 23, 28, 5, 96, 42, 3, 6, 182, 0, 139, 79, 42, 42, 180, 0, 87]
abbrev dktX4_readLineOf_7 : List UInt8 := dkwX4_readLineOf_7 ++ dktX4_readLineOf_8
def dkwX4_readLineOf_6 : List UInt8 := [27, 79, 42, 42, 180, 0, 23, 28, 6, 96, 182, 0, 143, 42, 180, 0, 23, 28, 4, 96, 42, 3, 16, 99]
abbrev dktX4_readLineOf_6 : List UInt8 := dkwX4_readLineOf_6 ++ dktX4_readLineOf_7
def dkwX4_readLineOf_5 : List UInt8 := [181, 0, 63, 167, 0, 114, 16, 8, 16, 9, 42, 180, 0, 60, 104, 96, 61, 42, 180, 0, 23, 28, 3, 96]
abbrev dktX4_readLineOf_5 : List UInt8 := dkwX4_readLineOf_5 ++ dktX4_readLineOf_6
def dkwX4_readLineOf_4 : List UInt8 := [79, 42, 180, 0, 26, 28, 16, 7, 96, 42, 3, 16, 9, 182, 0, 139, 79, 42, 89, 180, 0, 63, 4, 96]
abbrev dktX4_readLineOf_4 : List UInt8 := dkwX4_readLineOf_4 ++ dktX4_readLineOf_5
def dkwX4_readLineOf_3 : List UInt8 := [180, 0, 26, 28, 3, 96, 182, 0, 143, 42, 180, 0, 26, 28, 16, 6, 96, 42, 4, 16, 9, 182, 0, 139]
abbrev dktX4_readLineOf_3 : List UInt8 := dkwX4_readLineOf_3 ++ dktX4_readLineOf_4
def dkwX4_readLineOf_2 : List UInt8 := [4, 96, 181, 0, 56, 167, 0, 183, 27, 8, 160, 0, 67, 16, 8, 42, 180, 0, 63, 104, 61, 42, 42]
abbrev dktX4_readLineOf_2 : List UInt8 := dkwX4_readLineOf_2 ++ dktX4_readLineOf_3
def dkwX4_readLineOf_1 : List UInt8 := [180, 0, 23, 5, 42, 180, 0, 56, 104, 3, 96, 42, 4, 16, 9, 182, 0, 139, 79, 42, 89, 180, 0, 56]
abbrev dktX4_readLineOf_1 : List UInt8 := dkwX4_readLineOf_1 ++ dktX4_readLineOf_2
def dkwX4_readLineOf_0 : List UInt8 := [27, 7, 160, 0, 53, 42, 180, 0, 23, 5, 42, 180, 0, 56, 104, 4, 96, 42, 182, 0, 135, 79, 42]
abbrev dktX4_readLineOf_0 : List UInt8 := dkwX4_readLineOf_0 ++ dktX4_readLineOf_1
theorem dksX4_readLineOf_0 : cX4_readLineOf.data.toList.drop 0 = dktX4_readLineOf_0 := by decide +kernel
theorem dksX4_readLineOf_1 : cX4_readLineOf.data.toList.drop 23 = dktX4_readLineOf_1 := dk_seg dksX4_readLineOf_0 23 rfl rfl
theorem dksX4_readLineOf_2 : cX4_readLineOf.data.toList.drop 47 = dktX4_readLineOf_2 := dk_seg dksX4_readLineOf_1 24 rfl rfl
theorem dksX4_readLineOf_3 : cX4_readLineOf.data.toList.drop 70 = dktX4_readLineOf_3 := dk_seg dksX4_readLineOf_2 23 rfl rfl
theorem dksX4_readLineOf_4 : cX4_readLineOf.data.toList.drop 94 = dktX4_readLineOf_4 := dk_seg dksX4_readLineOf_3 24 rfl rfl
theorem dksX4_readLineOf_5 : cX4_readLineOf.data.toList.drop 118 = dktX4_readLineOf_5 := dk_seg dksX4_readLineOf_4 24 rfl rfl
theorem dksX4_readLineOf_6 : cX4_readLineOf.data.toList.drop 142 = dktX4_readLineOf_6 := dk_seg dksX4_readLineOf_5 24 rfl rfl
theorem dksX4_readLineOf_7 : cX4_readLineOf.data.toList.drop 166 = dktX4_readLineOf_7 := dk_seg dksX4_readLineOf_6 24 rfl rfl
theorem dksX4_readLineOf_8 : cX4_readLineOf.data.toList.drop 189 = dktX4_readLineOf_8 := dk_seg dksX4_readLineOf_7 23 rfl rfl
theorem dksX4_readLineOf_9 : cX4_readLineOf.data.toList.drop 213 = dktX4_readLineOf_9 := dk_seg dksX4_readLineOf_8 24 rfl rfl
theorem dX4_readLineOf_0 : decode cX4_readLineOf 0 = .ok (.iload_n 1, 1) := dk_27 (dk_at dksX4_readLineOf_0 0 rfl rfl)
theorem dX4_readLineOf_1 : decode cX4_readLineOf 1 = .ok (.iconst 4, 1) := dk_7 (dk_at dksX4_readLineOf_0 1 rfl rfl)
theorem dX4_readLineOf_2 : decode cX4_readLineOf 2 = .ok (.if_icmp .ne 53, 3) := dk_160 0 53 (dk_at dksX4_readLineOf_0 2 rfl rfl)
theorem dX4_readLineOf_5 : decode cX4_readLineOf 5 = .ok (.aload_n 0, 1) := dk_42 (dk_at dksX4_readLineOf_0 5 rfl rfl)
theorem dX4_readLineOf_6 : decode cX4_readLineOf 6 = .ok (.getfield 23, 3) := dk_180 0 23 (dk_at dksX4_readLineOf_0 6 rfl rfl)
theorem dX4_readLineOf_9 : decode cX4_readLineOf 9 = .ok (.iconst 2, 1) := dk_5 (dk_at dksX4_readLineOf_0 9 rfl rfl)
theorem dX4_readLineOf_10 : decode cX4_readLineOf 10 = .ok (.aload_n 0, 1) := dk_42 (dk_at dksX4_readLineOf_0 10 rfl rfl)
theorem dX4_readLineOf_11 : decode cX4_readLineOf 11 = .ok (.getfield 56, 3) := dk_180 0 56 (dk_at dksX4_readLineOf_0 11 rfl rfl)
theorem dX4_readLineOf_14 : decode cX4_readLineOf 14 = .ok (.imul, 1) := dk_104 (dk_at dksX4_readLineOf_0 14 rfl rfl)
theorem dX4_readLineOf_15 : decode cX4_readLineOf 15 = .ok (.iconst 1, 1) := dk_4 (dk_at dksX4_readLineOf_0 15 rfl rfl)
theorem dX4_readLineOf_16 : decode cX4_readLineOf 16 = .ok (.iadd, 1) := dk_96 (dk_at dksX4_readLineOf_0 16 rfl rfl)
theorem dX4_readLineOf_17 : decode cX4_readLineOf 17 = .ok (.aload_n 0, 1) := dk_42 (dk_at dksX4_readLineOf_0 17 rfl rfl)
theorem dX4_readLineOf_18 : decode cX4_readLineOf 18 = .ok (.invokevirtual 135, 3) := dk_182 0 135 (dk_at dksX4_readLineOf_0 18 rfl rfl)
theorem dX4_readLineOf_21 : decode cX4_readLineOf 21 = .ok (.iastore, 1) := dk_79 (dk_at dksX4_readLineOf_0 21 rfl rfl)
theorem dX4_readLineOf_22 : decode cX4_readLineOf 22 = .ok (.aload_n 0, 1) := dk_42 (dk_at dksX4_readLineOf_0 22 rfl rfl)
theorem dX4_readLineOf_23 : decode cX4_readLineOf 23 = .ok (.getfield 23, 3) := dk_180 0 23 (dk_at dksX4_readLineOf_1 0 rfl rfl)
theorem dX4_readLineOf_26 : decode cX4_readLineOf 26 = .ok (.iconst 2, 1) := dk_5 (dk_at dksX4_readLineOf_1 3 rfl rfl)
theorem dX4_readLineOf_27 : decode cX4_readLineOf 27 = .ok (.aload_n 0, 1) := dk_42 (dk_at dksX4_readLineOf_1 4 rfl rfl)
theorem dX4_readLineOf_28 : decode cX4_readLineOf 28 = .ok (.getfield 56, 3) := dk_180 0 56 (dk_at dksX4_readLineOf_1 5 rfl rfl)
theorem dX4_readLineOf_31 : decode cX4_readLineOf 31 = .ok (.imul, 1) := dk_104 (dk_at dksX4_readLineOf_1 8 rfl rfl)
theorem dX4_readLineOf_32 : decode cX4_readLineOf 32 = .ok (.iconst 0, 1) := dk_3 (dk_at dksX4_readLineOf_1 9 rfl rfl)
theorem dX4_readLineOf_33 : decode cX4_readLineOf 33 = .ok (.iadd, 1) := dk_96 (dk_at dksX4_readLineOf_1 10 rfl rfl)
theorem dX4_readLineOf_34 : decode cX4_readLineOf 34 = .ok (.aload_n 0, 1) := dk_42 (dk_at dksX4_readLineOf_1 11 rfl rfl)
theorem dX4_readLineOf_35 : decode cX4_readLineOf 35 = .ok (.iconst 1, 1) := dk_4 (dk_at dksX4_readLineOf_1 12 rfl rfl)
theorem dX4_readLineOf_36 : decode cX4_readLineOf 36 = .ok (.bipush 9, 2) := dk_16 9 (dk_at dksX4_readLineOf_1 13 rfl rfl)
theorem dX4_readLineOf_38 : decode cX4_readLineOf 38 = .ok (.invokevirtual 139, 3) := dk_182 0 139 (dk_at dksX4_readLineOf_1 15 rfl rfl)
theorem dX4_readLineOf_41 : decode cX4_readLineOf 41 = .ok (.iastore, 1) := dk_79 (dk_at dksX4_readLineOf_1 18 rfl rfl)
theorem dX4_readLineOf_42 : decode cX4_readLineOf 42 = .ok (.aload_n 0, 1) := dk_42 (dk_at dksX4_readLineOf_1 19 rfl rfl)
theorem dX4_readLineOf_43 : decode cX4_readLineOf 43 = .ok (.dup, 1) := dk_89 (dk_at dksX4_readLineOf_1 20 rfl rfl)
theorem dX4_readLineOf_44 : decode cX4_readLineOf 44 = .ok (.getfield 56, 3) := dk_180 0 56 (dk_at dksX4_readLineOf_1 21 rfl rfl)
theorem dX4_readLineOf_47 : decode cX4_readLineOf 47 = .ok (.iconst 1, 1) := dk_4 (dk_at dksX4_readLineOf_2 0 rfl rfl)
theorem dX4_readLineOf_48 : decode cX4_readLineOf 48 = .ok (.iadd, 1) := dk_96 (dk_at dksX4_readLineOf_2 1 rfl rfl)
theorem dX4_readLineOf_49 : decode cX4_readLineOf 49 = .ok (.putfield 56, 3) := dk_181 0 56 (dk_at dksX4_readLineOf_2 2 rfl rfl)
theorem dX4_readLineOf_52 : decode cX4_readLineOf 52 = .ok (.goto 183, 3) := dk_167 0 183 (dk_at dksX4_readLineOf_2 5 rfl rfl)
theorem dX4_readLineOf_55 : decode cX4_readLineOf 55 = .ok (.iload_n 1, 1) := dk_27 (dk_at dksX4_readLineOf_2 8 rfl rfl)
theorem dX4_readLineOf_56 : decode cX4_readLineOf 56 = .ok (.iconst 5, 1) := dk_8 (dk_at dksX4_readLineOf_2 9 rfl rfl)
theorem dX4_readLineOf_57 : decode cX4_readLineOf 57 = .ok (.if_icmp .ne 67, 3) := dk_160 0 67 (dk_at dksX4_readLineOf_2 10 rfl rfl)
theorem dX4_readLineOf_60 : decode cX4_readLineOf 60 = .ok (.bipush 8, 2) := dk_16 8 (dk_at dksX4_readLineOf_2 13 rfl rfl)
theorem dX4_readLineOf_62 : decode cX4_readLineOf 62 = .ok (.aload_n 0, 1) := dk_42 (dk_at dksX4_readLineOf_2 15 rfl rfl)
theorem dX4_readLineOf_63 : decode cX4_readLineOf 63 = .ok (.getfield 63, 3) := dk_180 0 63 (dk_at dksX4_readLineOf_2 16 rfl rfl)
theorem dX4_readLineOf_66 : decode cX4_readLineOf 66 = .ok (.imul, 1) := dk_104 (dk_at dksX4_readLineOf_2 19 rfl rfl)
theorem dX4_readLineOf_67 : decode cX4_readLineOf 67 = .ok (.istore_n 2, 1) := dk_61 (dk_at dksX4_readLineOf_2 20 rfl rfl)
theorem dX4_readLineOf_68 : decode cX4_readLineOf 68 = .ok (.aload_n 0, 1) := dk_42 (dk_at dksX4_readLineOf_2 21 rfl rfl)
theorem dX4_readLineOf_69 : decode cX4_readLineOf 69 = .ok (.aload_n 0, 1) := dk_42 (dk_at dksX4_readLineOf_2 22 rfl rfl)
theorem dX4_readLineOf_70 : decode cX4_readLineOf 70 = .ok (.getfield 26, 3) := dk_180 0 26 (dk_at dksX4_readLineOf_3 0 rfl rfl)
theorem dX4_readLineOf_73 : decode cX4_readLineOf 73 = .ok (.iload_n 2, 1) := dk_28 (dk_at dksX4_readLineOf_3 3 rfl rfl)
theorem dX4_readLineOf_74 : decode cX4_readLineOf 74 = .ok (.iconst 0, 1) := dk_3 (dk_at dksX4_readLineOf_3 4 rfl rfl)
theorem dX4_readLineOf_75 : decode cX4_readLineOf 75 = .ok (.iadd, 1) := dk_96 (dk_at dksX4_readLineOf_3 5 rfl rfl)
theorem dX4_readLineOf_76 : decode cX4_readLineOf 76 = .ok (.invokevirtual 143, 3) := dk_182 0 143 (dk_at dksX4_readLineOf_3 6 rfl rfl)
theorem dX4_readLineOf_79 : decode cX4_readLineOf 79 = .ok (.aload_n 0, 1) := dk_42 (dk_at dksX4_readLineOf_3 9 rfl rfl)
theorem dX4_readLineOf_80 : decode cX4_readLineOf 80 = .ok (.getfield 26, 3) := dk_180 0 26 (dk_at dksX4_readLineOf_3 10 rfl rfl)
theorem dX4_readLineOf_83 : decode cX4_readLineOf 83 = .ok (.iload_n 2, 1) := dk_28 (dk_at dksX4_readLineOf_3 13 rfl rfl)
theorem dX4_readLineOf_84 : decode cX4_readLineOf 84 = .ok (.bipush 6, 2) := dk_16 6 (dk_at dksX4_readLineOf_3 14 rfl rfl)
theorem dX4_readLineOf_86 : decode cX4_readLineOf 86 = .ok (.iadd, 1) := dk_96 (dk_at dksX4_readLineOf_3 16 rfl rfl)
theorem dX4_readLineOf_87 : decode cX4_readLineOf 87 = .ok (.aload_n 0, 1) := dk_42 (dk_at dksX4_readLineOf_3 17 rfl rfl)
theorem dX4_readLineOf_88 : decode cX4_readLineOf 88 = .ok (.iconst 1, 1) := dk_4 (dk_at dksX4_readLineOf_3 18 rfl rfl)
theorem dX4_readLineOf_89 : decode cX4_readLineOf 89 = .ok (.bipush 9, 2) := dk_16 9 (dk_at dksX4_readLineOf_3 19 rfl rfl)
theorem dX4_readLineOf_91 : decode cX4_readLineOf 91 = .ok (.invokevirtual 139, 3) := dk_182 0 139 (dk_at dksX4_readLineOf_3 21 rfl rfl)
theorem dX4_readLineOf_94 : decode cX4_readLineOf 94 = .ok (.iastore, 1) := dk_79 (dk_at dksX4_readLineOf_4 0 rfl rfl)
theorem dX4_readLineOf_95 : decode cX4_readLineOf 95 = .ok (.aload_n 0, 1) := dk_42 (dk_at dksX4_readLineOf_4 1 rfl rfl)
theorem dX4_readLineOf_96 : decode cX4_readLineOf 96 = .ok (.getfield 26, 3) := dk_180 0 26 (dk_at dksX4_readLineOf_4 2 rfl rfl)
theorem dX4_readLineOf_99 : decode cX4_readLineOf 99 = .ok (.iload_n 2, 1) := dk_28 (dk_at dksX4_readLineOf_4 5 rfl rfl)
theorem dX4_readLineOf_100 : decode cX4_readLineOf 100 = .ok (.bipush 7, 2) := dk_16 7 (dk_at dksX4_readLineOf_4 6 rfl rfl)
theorem dX4_readLineOf_102 : decode cX4_readLineOf 102 = .ok (.iadd, 1) := dk_96 (dk_at dksX4_readLineOf_4 8 rfl rfl)
theorem dX4_readLineOf_103 : decode cX4_readLineOf 103 = .ok (.aload_n 0, 1) := dk_42 (dk_at dksX4_readLineOf_4 9 rfl rfl)
theorem dX4_readLineOf_104 : decode cX4_readLineOf 104 = .ok (.iconst 0, 1) := dk_3 (dk_at dksX4_readLineOf_4 10 rfl rfl)
theorem dX4_readLineOf_105 : decode cX4_readLineOf 105 = .ok (.bipush 9, 2) := dk_16 9 (dk_at dksX4_readLineOf_4 11 rfl rfl)
theorem dX4_readLineOf_107 : decode cX4_readLineOf 107 = .ok (.invokevirtual 139, 3) := dk_182 0 139 (dk_at dksX4_readLineOf_4 13 rfl rfl)
theorem dX4_readLineOf_110 : decode cX4_readLineOf 110 = .ok (.iastore, 1) := dk_79 (dk_at dksX4_readLineOf_4 16 rfl rfl)
theorem dX4_readLineOf_111 : decode cX4_readLineOf 111 = .ok (.aload_n 0, 1) := dk_42 (dk_at dksX4_readLineOf_4 17 rfl rfl)
theorem dX4_readLineOf_112 : decode cX4_readLineOf 112 = .ok (.dup, 1) := dk_89 (dk_at dksX4_readLineOf_4 18 rfl rfl)
theorem dX4_readLineOf_113 : decode cX4_readLineOf 113 = .ok (.getfield 63, 3) := dk_180 0 63 (dk_at dksX4_readLineOf_4 19 rfl rfl)
theorem dX4_readLineOf_116 : decode cX4_readLineOf 116 = .ok (.iconst 1, 1) := dk_4 (dk_at dksX4_readLineOf_4 22 rfl rfl)
theorem dX4_readLineOf_117 : decode cX4_readLineOf 117 = .ok (.iadd, 1) := dk_96 (dk_at dksX4_readLineOf_4 23 rfl rfl)
theorem dX4_readLineOf_118 : decode cX4_readLineOf 118 = .ok (.putfield 63, 3) := dk_181 0 63 (dk_at dksX4_readLineOf_5 0 rfl rfl)
theorem dX4_readLineOf_121 : decode cX4_readLineOf 121 = .ok (.goto 114, 3) := dk_167 0 114 (dk_at dksX4_readLineOf_5 3 rfl rfl)
theorem dX4_readLineOf_124 : decode cX4_readLineOf 124 = .ok (.bipush 8, 2) := dk_16 8 (dk_at dksX4_readLineOf_5 6 rfl rfl)
theorem dX4_readLineOf_126 : decode cX4_readLineOf 126 = .ok (.bipush 9, 2) := dk_16 9 (dk_at dksX4_readLineOf_5 8 rfl rfl)
theorem dX4_readLineOf_128 : decode cX4_readLineOf 128 = .ok (.aload_n 0, 1) := dk_42 (dk_at dksX4_readLineOf_5 10 rfl rfl)
theorem dX4_readLineOf_129 : decode cX4_readLineOf 129 = .ok (.getfield 60, 3) := dk_180 0 60 (dk_at dksX4_readLineOf_5 11 rfl rfl)
theorem dX4_readLineOf_132 : decode cX4_readLineOf 132 = .ok (.imul, 1) := dk_104 (dk_at dksX4_readLineOf_5 14 rfl rfl)
theorem dX4_readLineOf_133 : decode cX4_readLineOf 133 = .ok (.iadd, 1) := dk_96 (dk_at dksX4_readLineOf_5 15 rfl rfl)
theorem dX4_readLineOf_134 : decode cX4_readLineOf 134 = .ok (.istore_n 2, 1) := dk_61 (dk_at dksX4_readLineOf_5 16 rfl rfl)
theorem dX4_readLineOf_135 : decode cX4_readLineOf 135 = .ok (.aload_n 0, 1) := dk_42 (dk_at dksX4_readLineOf_5 17 rfl rfl)
theorem dX4_readLineOf_136 : decode cX4_readLineOf 136 = .ok (.getfield 23, 3) := dk_180 0 23 (dk_at dksX4_readLineOf_5 18 rfl rfl)
theorem dX4_readLineOf_139 : decode cX4_readLineOf 139 = .ok (.iload_n 2, 1) := dk_28 (dk_at dksX4_readLineOf_5 21 rfl rfl)
theorem dX4_readLineOf_140 : decode cX4_readLineOf 140 = .ok (.iconst 0, 1) := dk_3 (dk_at dksX4_readLineOf_5 22 rfl rfl)
theorem dX4_readLineOf_141 : decode cX4_readLineOf 141 = .ok (.iadd, 1) := dk_96 (dk_at dksX4_readLineOf_5 23 rfl rfl)
theorem dX4_readLineOf_142 : decode cX4_readLineOf 142 = .ok (.iload_n 1, 1) := dk_27 (dk_at dksX4_readLineOf_6 0 rfl rfl)
theorem dX4_readLineOf_143 : decode cX4_readLineOf 143 = .ok (.iastore, 1) := dk_79 (dk_at dksX4_readLineOf_6 1 rfl rfl)
theorem dX4_readLineOf_144 : decode cX4_readLineOf 144 = .ok (.aload_n 0, 1) := dk_42 (dk_at dksX4_readLineOf_6 2 rfl rfl)
theorem dX4_readLineOf_145 : decode cX4_readLineOf 145 = .ok (.aload_n 0, 1) := dk_42 (dk_at dksX4_readLineOf_6 3 rfl rfl)
theorem dX4_readLineOf_146 : decode cX4_readLineOf 146 = .ok (.getfield 23, 3) := dk_180 0 23 (dk_at dksX4_readLineOf_6 4 rfl rfl)
theorem dX4_readLineOf_149 : decode cX4_readLineOf 149 = .ok (.iload_n 2, 1) := dk_28 (dk_at dksX4_readLineOf_6 7 rfl rfl)
theorem dX4_readLineOf_150 : decode cX4_readLineOf 150 = .ok (.iconst 3, 1) := dk_6 (dk_at dksX4_readLineOf_6 8 rfl rfl)
theorem dX4_readLineOf_151 : decode cX4_readLineOf 151 = .ok (.iadd, 1) := dk_96 (dk_at dksX4_readLineOf_6 9 rfl rfl)
theorem dX4_readLineOf_152 : decode cX4_readLineOf 152 = .ok (.invokevirtual 143, 3) := dk_182 0 143 (dk_at dksX4_readLineOf_6 10 rfl rfl)
theorem dX4_readLineOf_155 : decode cX4_readLineOf 155 = .ok (.aload_n 0, 1) := dk_42 (dk_at dksX4_readLineOf_6 13 rfl rfl)
theorem dX4_readLineOf_156 : decode cX4_readLineOf 156 = .ok (.getfield 23, 3) := dk_180 0 23 (dk_at dksX4_readLineOf_6 14 rfl rfl)
theorem dX4_readLineOf_159 : decode cX4_readLineOf 159 = .ok (.iload_n 2, 1) := dk_28 (dk_at dksX4_readLineOf_6 17 rfl rfl)
theorem dX4_readLineOf_160 : decode cX4_readLineOf 160 = .ok (.iconst 1, 1) := dk_4 (dk_at dksX4_readLineOf_6 18 rfl rfl)
theorem dX4_readLineOf_161 : decode cX4_readLineOf 161 = .ok (.iadd, 1) := dk_96 (dk_at dksX4_readLineOf_6 19 rfl rfl)
theorem dX4_readLineOf_162 : decode cX4_readLineOf 162 = .ok (.aload_n 0, 1) := dk_42 (dk_at dksX4_readLineOf_6 20 rfl rfl)
theorem dX4_readLineOf_163 : decode cX4_readLineOf 163 = .ok (.iconst 0, 1) := dk_3 (dk_at dksX4_readLineOf_6 21 rfl rfl)
theorem dX4_readLineOf_164 : decode cX4_readLineOf 164 = .ok (.bipush 99, 2) := dk_16 99 (dk_at dksX4_readLineOf_6 22 rfl rfl)
theorem dX4_readLineOf_166 : decode cX4_readLineOf 166 = .ok (.invokevirtual 139, 3) := dk_182 0 139 (dk_at dksX4_readLineOf_7 0 rfl rfl)
theorem dX4_readLineOf_169 : decode cX4_readLineOf 169 = .ok (.iastore, 1) := dk_79 (dk_at dksX4_readLineOf_7 3 rfl rfl)
theorem dX4_readLineOf_170 : decode cX4_readLineOf 170 = .ok (.aload_n 0, 1) := dk_42 (dk_at dksX4_readLineOf_7 4 rfl rfl)
theorem dX4_readLineOf_171 : decode cX4_readLineOf 171 = .ok (.getfield 23, 3) := dk_180 0 23 (dk_at dksX4_readLineOf_7 5 rfl rfl)
theorem dX4_readLineOf_174 : decode cX4_readLineOf 174 = .ok (.iload_n 2, 1) := dk_28 (dk_at dksX4_readLineOf_7 8 rfl rfl)
theorem dX4_readLineOf_175 : decode cX4_readLineOf 175 = .ok (.iconst 2, 1) := dk_5 (dk_at dksX4_readLineOf_7 9 rfl rfl)
theorem dX4_readLineOf_176 : decode cX4_readLineOf 176 = .ok (.iadd, 1) := dk_96 (dk_at dksX4_readLineOf_7 10 rfl rfl)
theorem dX4_readLineOf_177 : decode cX4_readLineOf 177 = .ok (.aload_n 0, 1) := dk_42 (dk_at dksX4_readLineOf_7 11 rfl rfl)
theorem dX4_readLineOf_178 : decode cX4_readLineOf 178 = .ok (.iconst 0, 1) := dk_3 (dk_at dksX4_readLineOf_7 12 rfl rfl)
theorem dX4_readLineOf_179 : decode cX4_readLineOf 179 = .ok (.iconst 3, 1) := dk_6 (dk_at dksX4_readLineOf_7 13 rfl rfl)
theorem dX4_readLineOf_180 : decode cX4_readLineOf 180 = .ok (.invokevirtual 139, 3) := dk_182 0 139 (dk_at dksX4_readLineOf_7 14 rfl rfl)
theorem dX4_readLineOf_183 : decode cX4_readLineOf 183 = .ok (.iastore, 1) := dk_79 (dk_at dksX4_readLineOf_7 17 rfl rfl)
theorem dX4_readLineOf_184 : decode cX4_readLineOf 184 = .ok (.aload_n 0, 1) := dk_42 (dk_at dksX4_readLineOf_7 18 rfl rfl)
theorem dX4_readLineOf_185 : decode cX4_readLineOf 185 = .ok (.aload_n 0, 1) := dk_42 (dk_at dksX4_readLineOf_7 19 rfl rfl)
theorem dX4_readLineOf_186 : decode cX4_readLineOf 186 = .ok (.getfield 87, 3) := dk_180 0 87 (dk_at dksX4_readLineOf_7 20 rfl rfl)
theorem dX4_readLineOf_189 : decode cX4_readLineOf 189 = .ok (.ifCond .ne 29, 3) := dk_154 0 29 (dk_at dksX4_readLineOf_8 0 rfl rfl)
theorem dX4_readLineOf_192 : decode cX4_readLineOf 192 = .ok (.aload_n 0, 1) := dk_42 (dk_at dksX4_readLineOf_8 3 rfl rfl)
theorem dX4_readLineOf_193 : decode cX4_readLineOf 193 = .ok (.getfield 23, 3) := dk_180 0 23 (dk_at dksX4_readLineOf_8 4 rfl rfl)
theorem dX4_readLineOf_196 : decode cX4_readLineOf 196 = .ok (.iload_n 2, 1) := dk_28 (dk_at dksX4_readLineOf_8 7 rfl rfl)
theorem dX4_readLineOf_197 : decode cX4_readLineOf 197 = .ok (.iconst 2, 1) := dk_5 (dk_at dksX4_readLineOf_8 8 rfl rfl)
theorem dX4_readLineOf_198 : decode cX4_readLineOf 198 = .ok (.iadd, 1) := dk_96 (dk_at dksX4_readLineOf_8 9 rfl rfl)
theorem dX4_readLineOf_199 : decode cX4_readLineOf 199 = .ok (.iaload, 1) := dk_46 (dk_at dksX4_readLineOf_8 10 rfl rfl)
theorem dX4_readLineOf_200 : decode cX4_readLineOf 200 = .ok (.aload_n 0, 1) := dk_42 (dk_at dksX4_readLineOf_8 11 rfl rfl)
theorem dX4_readLineOf_201 : decode cX4_readLineOf 201 = .ok (.getfield 66, 3) := dk_180 0 66 (dk_at dksX4_readLineOf_8 12 rfl rfl)
theorem dX4_readLineOf_204 : decode cX4_readLineOf 204 = .ok (.if_icmp .le 14, 3) := dk_164 0 14 (dk_at dksX4_readLineOf_8 15 rfl rfl)
theorem dX4_readLineOf_207 : decode cX4_readLineOf 207 = .ok (.aload_n 0, 1) := dk_42 (dk_at dksX4_readLineOf_8 18 rfl rfl)
theorem dX4_readLineOf_208 : decode cX4_readLineOf 208 = .ok (.getfield 23, 3) := dk_180 0 23 (dk_at dksX4_readLineOf_8 19 rfl rfl)
theorem dX4_readLineOf_211 : decode cX4_readLineOf 211 = .ok (.iload_n 2, 1) := dk_28 (dk_at dksX4_readLineOf_8 22 rfl rfl)
theorem dX4_readLineOf_212 : decode cX4_readLineOf 212 = .ok (.iconst 2, 1) := dk_5 (dk_at dksX4_readLineOf_8 23 rfl rfl)
theorem dX4_readLineOf_213 : decode cX4_readLineOf 213 = .ok (.iadd, 1) := dk_96 (dk_at dksX4_readLineOf_9 0 rfl rfl)
theorem dX4_readLineOf_214 : decode cX4_readLineOf 214 = .ok (.iaload, 1) := dk_46 (dk_at dksX4_readLineOf_9 1 rfl rfl)
theorem dX4_readLineOf_215 : decode cX4_readLineOf 215 = .ok (.goto 7, 3) := dk_167 0 7 (dk_at dksX4_readLineOf_9 2 rfl rfl)
theorem dX4_readLineOf_218 : decode cX4_readLineOf 218 = .ok (.aload_n 0, 1) := dk_42 (dk_at dksX4_readLineOf_9 5 rfl rfl)
theorem dX4_readLineOf_219 : decode cX4_readLineOf 219 = .ok (.getfield 66, 3) := dk_180 0 66 (dk_at dksX4_readLineOf_9 6 rfl rfl)
theorem dX4_readLineOf_222 : decode cX4_readLineOf 222 = .ok (.putfield 66, 3) := dk_181 0 66 (dk_at dksX4_readLineOf_9 9 rfl rfl)
theorem dX4_readLineOf_225 : decode cX4_readLineOf 225 = .ok (.aload_n 0, 1) := dk_42 (dk_at dksX4_readLineOf_9 12 rfl rfl)
theorem dX4_readLineOf_226 : decode cX4_readLineOf 226 = .ok (.dup, 1) := dk_89 (dk_at dksX4_readLineOf_9 13 rfl rfl)
theorem dX4_readLineOf_227 : decode cX4_readLineOf 227 = .ok (.getfield 60, 3) := dk_180 0 60 (dk_at dksX4_readLineOf_9 14 rfl rfl)
theorem dX4_readLineOf_230 : decode cX4_readLineOf 230 = .ok (.iconst 1, 1) := dk_4 (dk_at dksX4_readLineOf_9 17 rfl rfl)
theorem dX4_readLineOf_231 : decode cX4_readLineOf 231 = .ok (.iadd, 1) := dk_96 (dk_at dksX4_readLineOf_9 18 rfl rfl)
theorem dX4_readLineOf_232 : decode cX4_readLineOf 232 = .ok (.putfield 60, 3) := dk_181 0 60 (dk_at dksX4_readLineOf_9 19 rfl rfl)
theorem dX4_readLineOf_235 : decode cX4_readLineOf 235 = .ok (.return_, 1) := dk_177 (dk_at dksX4_readLineOf_9 22 rfl rfl)
abbrev cX4_readVowel : ByteArray := prog_13_method_17_code
def yX4_readVowel : MethodName := ⟨RX4, "readVowel", "()I"⟩
def dkwX4_readVowel_3 : List UInt8 := [167, 0, 4, 3, 6, 182, 0, 125, 42, 182, 0, 129, 27, 172]
abbrev dktX4_readVowel_3 : List UInt8 := dkwX4_readVowel_3 ++ []
def dkwX4_readVowel_2 : List UInt8 := [184, 0, 132, 167, 0, 5, 16, 252, 60, 42, 180, 0, 87, 154, 0, 19, 42, 27, 16, 252, 159, 0, 7, 4]
abbrev dktX4_readVowel_2 : List UInt8 := dkwX4_readVowel_2 ++ dktX4_readVowel_3
def dkwX4_readVowel_1 : List UInt8 := [182, 0, 125, 42, 180, 0, 96, 42, 180, 0, 90, 100, 4, 160, 0, 17, 42, 42, 180, 0, 90, 182, 0, 99]
abbrev dktX4_readVowel_1 : List UInt8 := dkwX4_readVowel_1 ++ dktX4_readVowel_2
def dkwX4_readVowel_0 : List UInt8 := [42, 180, 0, 87, 154, 0, 21, 42, 42, 180, 0, 111, 4, 160, 0, 7, 4, 167, 0, 4, 3, 5]
abbrev dktX4_readVowel_0 : List UInt8 := dkwX4_readVowel_0 ++ dktX4_readVowel_1
theorem dksX4_readVowel_0 : cX4_readVowel.data.toList.drop 0 = dktX4_readVowel_0 := by decide +kernel
theorem dksX4_readVowel_1 : cX4_readVowel.data.toList.drop 22 = dktX4_readVowel_1 := dk_seg dksX4_readVowel_0 22 rfl rfl
theorem dksX4_readVowel_2 : cX4_readVowel.data.toList.drop 46 = dktX4_readVowel_2 := dk_seg dksX4_readVowel_1 24 rfl rfl
theorem dksX4_readVowel_3 : cX4_readVowel.data.toList.drop 70 = dktX4_readVowel_3 := dk_seg dksX4_readVowel_2 24 rfl rfl
theorem dX4_readVowel_0 : decode cX4_readVowel 0 = .ok (.aload_n 0, 1) := dk_42 (dk_at dksX4_readVowel_0 0 rfl rfl)
theorem dX4_readVowel_1 : decode cX4_readVowel 1 = .ok (.getfield 87, 3) := dk_180 0 87 (dk_at dksX4_readVowel_0 1 rfl rfl)
theorem dX4_readVowel_4 : decode cX4_readVowel 4 = .ok (.ifCond .ne 21, 3) := dk_154 0 21 (dk_at dksX4_readVowel_0 4 rfl rfl)
theorem dX4_readVowel_7 : decode cX4_readVowel 7 = .ok (.aload_n 0, 1) := dk_42 (dk_at dksX4_readVowel_0 7 rfl rfl)
theorem dX4_readVowel_8 : decode cX4_readVowel 8 = .ok (.aload_n 0, 1) := dk_42 (dk_at dksX4_readVowel_0 8 rfl rfl)
theorem dX4_readVowel_9 : decode cX4_readVowel 9 = .ok (.getfield 111, 3) := dk_180 0 111 (dk_at dksX4_readVowel_0 9 rfl rfl)
theorem dX4_readVowel_12 : decode cX4_readVowel 12 = .ok (.iconst 1, 1) := dk_4 (dk_at dksX4_readVowel_0 12 rfl rfl)
theorem dX4_readVowel_13 : decode cX4_readVowel 13 = .ok (.if_icmp .ne 7, 3) := dk_160 0 7 (dk_at dksX4_readVowel_0 13 rfl rfl)
theorem dX4_readVowel_16 : decode cX4_readVowel 16 = .ok (.iconst 1, 1) := dk_4 (dk_at dksX4_readVowel_0 16 rfl rfl)
theorem dX4_readVowel_17 : decode cX4_readVowel 17 = .ok (.goto 4, 3) := dk_167 0 4 (dk_at dksX4_readVowel_0 17 rfl rfl)
theorem dX4_readVowel_20 : decode cX4_readVowel 20 = .ok (.iconst 0, 1) := dk_3 (dk_at dksX4_readVowel_0 20 rfl rfl)
theorem dX4_readVowel_21 : decode cX4_readVowel 21 = .ok (.iconst 2, 1) := dk_5 (dk_at dksX4_readVowel_0 21 rfl rfl)
theorem dX4_readVowel_22 : decode cX4_readVowel 22 = .ok (.invokevirtual 125, 3) := dk_182 0 125 (dk_at dksX4_readVowel_1 0 rfl rfl)
theorem dX4_readVowel_25 : decode cX4_readVowel 25 = .ok (.aload_n 0, 1) := dk_42 (dk_at dksX4_readVowel_1 3 rfl rfl)
theorem dX4_readVowel_26 : decode cX4_readVowel 26 = .ok (.getfield 96, 3) := dk_180 0 96 (dk_at dksX4_readVowel_1 4 rfl rfl)
theorem dX4_readVowel_29 : decode cX4_readVowel 29 = .ok (.aload_n 0, 1) := dk_42 (dk_at dksX4_readVowel_1 7 rfl rfl)
theorem dX4_readVowel_30 : decode cX4_readVowel 30 = .ok (.getfield 90, 3) := dk_180 0 90 (dk_at dksX4_readVowel_1 8 rfl rfl)
theorem dX4_readVowel_33 : decode cX4_readVowel 33 = .ok (.isub, 1) := dk_100 (dk_at dksX4_readVowel_1 11 rfl rfl)
theorem dX4_readVowel_34 : decode cX4_readVowel 34 = .ok (.iconst 1, 1) := dk_4 (dk_at dksX4_readVowel_1 12 rfl rfl)
theorem dX4_readVowel_35 : decode cX4_readVowel 35 = .ok (.if_icmp .ne 17, 3) := dk_160 0 17 (dk_at dksX4_readVowel_1 13 rfl rfl)
theorem dX4_readVowel_38 : decode cX4_readVowel 38 = .ok (.aload_n 0, 1) := dk_42 (dk_at dksX4_readVowel_1 16 rfl rfl)
theorem dX4_readVowel_39 : decode cX4_readVowel 39 = .ok (.aload_n 0, 1) := dk_42 (dk_at dksX4_readVowel_1 17 rfl rfl)
theorem dX4_readVowel_40 : decode cX4_readVowel 40 = .ok (.getfield 90, 3) := dk_180 0 90 (dk_at dksX4_readVowel_1 18 rfl rfl)
theorem dX4_readVowel_43 : decode cX4_readVowel 43 = .ok (.invokevirtual 99, 3) := dk_182 0 99 (dk_at dksX4_readVowel_1 21 rfl rfl)
theorem dX4_readVowel_46 : decode cX4_readVowel 46 = .ok (.invokestatic 132, 3) := dk_184 0 132 (dk_at dksX4_readVowel_2 0 rfl rfl)
theorem dX4_readVowel_49 : decode cX4_readVowel 49 = .ok (.goto 5, 3) := dk_167 0 5 (dk_at dksX4_readVowel_2 3 rfl rfl)
theorem dX4_readVowel_52 : decode cX4_readVowel 52 = .ok (.bipush (-4), 2) := dk_16 252 (dk_at dksX4_readVowel_2 6 rfl rfl)
theorem dX4_readVowel_54 : decode cX4_readVowel 54 = .ok (.istore_n 1, 1) := dk_60 (dk_at dksX4_readVowel_2 8 rfl rfl)
theorem dX4_readVowel_55 : decode cX4_readVowel 55 = .ok (.aload_n 0, 1) := dk_42 (dk_at dksX4_readVowel_2 9 rfl rfl)
theorem dX4_readVowel_56 : decode cX4_readVowel 56 = .ok (.getfield 87, 3) := dk_180 0 87 (dk_at dksX4_readVowel_2 10 rfl rfl)
theorem dX4_readVowel_59 : decode cX4_readVowel 59 = .ok (.ifCond .ne 19, 3) := dk_154 0 19 (dk_at dksX4_readVowel_2 13 rfl rfl)
theorem dX4_readVowel_62 : decode cX4_readVowel 62 = .ok (.aload_n 0, 1) := dk_42 (dk_at dksX4_readVowel_2 16 rfl rfl)
theorem dX4_readVowel_63 : decode cX4_readVowel 63 = .ok (.iload_n 1, 1) := dk_27 (dk_at dksX4_readVowel_2 17 rfl rfl)
theorem dX4_readVowel_64 : decode cX4_readVowel 64 = .ok (.bipush (-4), 2) := dk_16 252 (dk_at dksX4_readVowel_2 18 rfl rfl)
theorem dX4_readVowel_66 : decode cX4_readVowel 66 = .ok (.if_icmp .eq 7, 3) := dk_159 0 7 (dk_at dksX4_readVowel_2 20 rfl rfl)
theorem dX4_readVowel_69 : decode cX4_readVowel 69 = .ok (.iconst 1, 1) := dk_4 (dk_at dksX4_readVowel_2 23 rfl rfl)
theorem dX4_readVowel_70 : decode cX4_readVowel 70 = .ok (.goto 4, 3) := dk_167 0 4 (dk_at dksX4_readVowel_3 0 rfl rfl)
theorem dX4_readVowel_73 : decode cX4_readVowel 73 = .ok (.iconst 0, 1) := dk_3 (dk_at dksX4_readVowel_3 3 rfl rfl)
theorem dX4_readVowel_74 : decode cX4_readVowel 74 = .ok (.iconst 3, 1) := dk_6 (dk_at dksX4_readVowel_3 4 rfl rfl)
theorem dX4_readVowel_75 : decode cX4_readVowel 75 = .ok (.invokevirtual 125, 3) := dk_182 0 125 (dk_at dksX4_readVowel_3 5 rfl rfl)
theorem dX4_readVowel_78 : decode cX4_readVowel 78 = .ok (.aload_n 0, 1) := dk_42 (dk_at dksX4_readVowel_3 8 rfl rfl)
theorem dX4_readVowel_79 : decode cX4_readVowel 79 = .ok (.invokevirtual 129, 3) := dk_182 0 129 (dk_at dksX4_readVowel_3 9 rfl rfl)
theorem dX4_readVowel_82 : decode cX4_readVowel 82 = .ok (.iload_n 1, 1) := dk_27 (dk_at dksX4_readVowel_3 12 rfl rfl)
theorem dX4_readVowel_83 : decode cX4_readVowel 83 = .ok (.ireturn, 1) := dk_172 (dk_at dksX4_readVowel_3 13 rfl rfl)
abbrev cX4_vowelOf : ByteArray := prog_13_method_14_code
def yX4_vowelOf : MethodName := ⟨RX4, "vowelOf", "(I)I"⟩
def dkwX4_vowelOf_2 : List UInt8 := [167, 0, 5, 16, 252, 172]
abbrev dktX4_vowelOf_2 : List UInt8 := dkwX4_vowelOf_2 ++ []
def dkwX4_vowelOf_1 : List UInt8 := [160, 0, 7, 5, 167, 0, 25, 26, 16, 111, 160, 0, 7, 6, 167, 0, 15, 26, 16, 117, 160, 0, 7, 7]
abbrev dktX4_vowelOf_1 : List UInt8 := dkwX4_vowelOf_1 ++ dktX4_vowelOf_2
def dkwX4_vowelOf_0 : List UInt8 := [26, 16, 97, 160, 0, 7, 3, 167, 0, 45, 26, 16, 101, 160, 0, 7, 4, 167, 0, 35, 26, 16, 105]
abbrev dktX4_vowelOf_0 : List UInt8 := dkwX4_vowelOf_0 ++ dktX4_vowelOf_1
theorem dksX4_vowelOf_0 : cX4_vowelOf.data.toList.drop 0 = dktX4_vowelOf_0 := by decide +kernel
theorem dksX4_vowelOf_1 : cX4_vowelOf.data.toList.drop 23 = dktX4_vowelOf_1 := dk_seg dksX4_vowelOf_0 23 rfl rfl
theorem dksX4_vowelOf_2 : cX4_vowelOf.data.toList.drop 47 = dktX4_vowelOf_2 := dk_seg dksX4_vowelOf_1 24 rfl rfl
theorem dX4_vowelOf_0 : decode cX4_vowelOf 0 = .ok (.iload_n 0, 1) := dk_26 (dk_at dksX4_vowelOf_0 0 rfl rfl)
theorem dX4_vowelOf_1 : decode cX4_vowelOf 1 = .ok (.bipush 97, 2) := dk_16 97 (dk_at dksX4_vowelOf_0 1 rfl rfl)
theorem dX4_vowelOf_3 : decode cX4_vowelOf 3 = .ok (.if_icmp .ne 7, 3) := dk_160 0 7 (dk_at dksX4_vowelOf_0 3 rfl rfl)
theorem dX4_vowelOf_6 : decode cX4_vowelOf 6 = .ok (.iconst 0, 1) := dk_3 (dk_at dksX4_vowelOf_0 6 rfl rfl)
theorem dX4_vowelOf_7 : decode cX4_vowelOf 7 = .ok (.goto 45, 3) := dk_167 0 45 (dk_at dksX4_vowelOf_0 7 rfl rfl)
theorem dX4_vowelOf_10 : decode cX4_vowelOf 10 = .ok (.iload_n 0, 1) := dk_26 (dk_at dksX4_vowelOf_0 10 rfl rfl)
theorem dX4_vowelOf_11 : decode cX4_vowelOf 11 = .ok (.bipush 101, 2) := dk_16 101 (dk_at dksX4_vowelOf_0 11 rfl rfl)
theorem dX4_vowelOf_13 : decode cX4_vowelOf 13 = .ok (.if_icmp .ne 7, 3) := dk_160 0 7 (dk_at dksX4_vowelOf_0 13 rfl rfl)
theorem dX4_vowelOf_16 : decode cX4_vowelOf 16 = .ok (.iconst 1, 1) := dk_4 (dk_at dksX4_vowelOf_0 16 rfl rfl)
theorem dX4_vowelOf_17 : decode cX4_vowelOf 17 = .ok (.goto 35, 3) := dk_167 0 35 (dk_at dksX4_vowelOf_0 17 rfl rfl)
theorem dX4_vowelOf_20 : decode cX4_vowelOf 20 = .ok (.iload_n 0, 1) := dk_26 (dk_at dksX4_vowelOf_0 20 rfl rfl)
theorem dX4_vowelOf_21 : decode cX4_vowelOf 21 = .ok (.bipush 105, 2) := dk_16 105 (dk_at dksX4_vowelOf_0 21 rfl rfl)
theorem dX4_vowelOf_23 : decode cX4_vowelOf 23 = .ok (.if_icmp .ne 7, 3) := dk_160 0 7 (dk_at dksX4_vowelOf_1 0 rfl rfl)
theorem dX4_vowelOf_26 : decode cX4_vowelOf 26 = .ok (.iconst 2, 1) := dk_5 (dk_at dksX4_vowelOf_1 3 rfl rfl)
theorem dX4_vowelOf_27 : decode cX4_vowelOf 27 = .ok (.goto 25, 3) := dk_167 0 25 (dk_at dksX4_vowelOf_1 4 rfl rfl)
theorem dX4_vowelOf_30 : decode cX4_vowelOf 30 = .ok (.iload_n 0, 1) := dk_26 (dk_at dksX4_vowelOf_1 7 rfl rfl)
theorem dX4_vowelOf_31 : decode cX4_vowelOf 31 = .ok (.bipush 111, 2) := dk_16 111 (dk_at dksX4_vowelOf_1 8 rfl rfl)
theorem dX4_vowelOf_33 : decode cX4_vowelOf 33 = .ok (.if_icmp .ne 7, 3) := dk_160 0 7 (dk_at dksX4_vowelOf_1 10 rfl rfl)
theorem dX4_vowelOf_36 : decode cX4_vowelOf 36 = .ok (.iconst 3, 1) := dk_6 (dk_at dksX4_vowelOf_1 13 rfl rfl)
theorem dX4_vowelOf_37 : decode cX4_vowelOf 37 = .ok (.goto 15, 3) := dk_167 0 15 (dk_at dksX4_vowelOf_1 14 rfl rfl)
theorem dX4_vowelOf_40 : decode cX4_vowelOf 40 = .ok (.iload_n 0, 1) := dk_26 (dk_at dksX4_vowelOf_1 17 rfl rfl)
theorem dX4_vowelOf_41 : decode cX4_vowelOf 41 = .ok (.bipush 117, 2) := dk_16 117 (dk_at dksX4_vowelOf_1 18 rfl rfl)
theorem dX4_vowelOf_43 : decode cX4_vowelOf 43 = .ok (.if_icmp .ne 7, 3) := dk_160 0 7 (dk_at dksX4_vowelOf_1 20 rfl rfl)
theorem dX4_vowelOf_46 : decode cX4_vowelOf 46 = .ok (.iconst 4, 1) := dk_7 (dk_at dksX4_vowelOf_1 23 rfl rfl)
theorem dX4_vowelOf_47 : decode cX4_vowelOf 47 = .ok (.goto 5, 3) := dk_167 0 5 (dk_at dksX4_vowelOf_2 0 rfl rfl)
theorem dX4_vowelOf_50 : decode cX4_vowelOf 50 = .ok (.bipush (-4), 2) := dk_16 252 (dk_at dksX4_vowelOf_2 3 rfl rfl)
theorem dX4_vowelOf_52 : decode cX4_vowelOf 52 = .ok (.ireturn, 1) := dk_172 (dk_at dksX4_vowelOf_2 5 rfl rfl)
abbrev cX4_readNumber : ByteArray := prog_13_method_16_code
def yX4_readNumber : MethodName := ⟨RX4, "readNumber", "(II)I"⟩
def dkwX4_readNumber_3 : List UInt8 := [172]
abbrev dktX4_readNumber_3 : List UInt8 := dkwX4_readNumber_3 ++ []
def dkwX4_readNumber_2 : List UInt8 := [182, 0, 125, 42, 180, 0, 87, 154, 0, 10, 42, 180, 0, 122, 167, 0, 4, 3, 62, 42, 182, 0, 129, 29]
abbrev dktX4_readNumber_2 : List UInt8 := dkwX4_readNumber_2 ++ dktX4_readNumber_3
def dkwX4_readNumber_1 : List UInt8 := [182, 0, 125, 42, 180, 0, 87, 154, 0, 20, 42, 42, 180, 0, 122, 133, 27, 133, 28, 133, 184, 0, 80, 6]
abbrev dktX4_readNumber_1 : List UInt8 := dkwX4_readNumber_1 ++ dktX4_readNumber_2
def dkwX4_readNumber_0 : List UInt8 := [42, 180, 0, 87, 154, 0, 21, 42, 42, 180, 0, 111, 5, 160, 0, 7, 4, 167, 0, 4, 3, 5]
abbrev dktX4_readNumber_0 : List UInt8 := dkwX4_readNumber_0 ++ dktX4_readNumber_1
theorem dksX4_readNumber_0 : cX4_readNumber.data.toList.drop 0 = dktX4_readNumber_0 := by decide +kernel
theorem dksX4_readNumber_1 : cX4_readNumber.data.toList.drop 22 = dktX4_readNumber_1 := dk_seg dksX4_readNumber_0 22 rfl rfl
theorem dksX4_readNumber_2 : cX4_readNumber.data.toList.drop 46 = dktX4_readNumber_2 := dk_seg dksX4_readNumber_1 24 rfl rfl
theorem dksX4_readNumber_3 : cX4_readNumber.data.toList.drop 70 = dktX4_readNumber_3 := dk_seg dksX4_readNumber_2 24 rfl rfl
theorem dX4_readNumber_0 : decode cX4_readNumber 0 = .ok (.aload_n 0, 1) := dk_42 (dk_at dksX4_readNumber_0 0 rfl rfl)
theorem dX4_readNumber_1 : decode cX4_readNumber 1 = .ok (.getfield 87, 3) := dk_180 0 87 (dk_at dksX4_readNumber_0 1 rfl rfl)
theorem dX4_readNumber_4 : decode cX4_readNumber 4 = .ok (.ifCond .ne 21, 3) := dk_154 0 21 (dk_at dksX4_readNumber_0 4 rfl rfl)
theorem dX4_readNumber_7 : decode cX4_readNumber 7 = .ok (.aload_n 0, 1) := dk_42 (dk_at dksX4_readNumber_0 7 rfl rfl)
theorem dX4_readNumber_8 : decode cX4_readNumber 8 = .ok (.aload_n 0, 1) := dk_42 (dk_at dksX4_readNumber_0 8 rfl rfl)
theorem dX4_readNumber_9 : decode cX4_readNumber 9 = .ok (.getfield 111, 3) := dk_180 0 111 (dk_at dksX4_readNumber_0 9 rfl rfl)
theorem dX4_readNumber_12 : decode cX4_readNumber 12 = .ok (.iconst 2, 1) := dk_5 (dk_at dksX4_readNumber_0 12 rfl rfl)
theorem dX4_readNumber_13 : decode cX4_readNumber 13 = .ok (.if_icmp .ne 7, 3) := dk_160 0 7 (dk_at dksX4_readNumber_0 13 rfl rfl)
theorem dX4_readNumber_16 : decode cX4_readNumber 16 = .ok (.iconst 1, 1) := dk_4 (dk_at dksX4_readNumber_0 16 rfl rfl)
theorem dX4_readNumber_17 : decode cX4_readNumber 17 = .ok (.goto 4, 3) := dk_167 0 4 (dk_at dksX4_readNumber_0 17 rfl rfl)
theorem dX4_readNumber_20 : decode cX4_readNumber 20 = .ok (.iconst 0, 1) := dk_3 (dk_at dksX4_readNumber_0 20 rfl rfl)
theorem dX4_readNumber_21 : decode cX4_readNumber 21 = .ok (.iconst 2, 1) := dk_5 (dk_at dksX4_readNumber_0 21 rfl rfl)
theorem dX4_readNumber_22 : decode cX4_readNumber 22 = .ok (.invokevirtual 125, 3) := dk_182 0 125 (dk_at dksX4_readNumber_1 0 rfl rfl)
theorem dX4_readNumber_25 : decode cX4_readNumber 25 = .ok (.aload_n 0, 1) := dk_42 (dk_at dksX4_readNumber_1 3 rfl rfl)
theorem dX4_readNumber_26 : decode cX4_readNumber 26 = .ok (.getfield 87, 3) := dk_180 0 87 (dk_at dksX4_readNumber_1 4 rfl rfl)
theorem dX4_readNumber_29 : decode cX4_readNumber 29 = .ok (.ifCond .ne 20, 3) := dk_154 0 20 (dk_at dksX4_readNumber_1 7 rfl rfl)
theorem dX4_readNumber_32 : decode cX4_readNumber 32 = .ok (.aload_n 0, 1) := dk_42 (dk_at dksX4_readNumber_1 10 rfl rfl)
theorem dX4_readNumber_33 : decode cX4_readNumber 33 = .ok (.aload_n 0, 1) := dk_42 (dk_at dksX4_readNumber_1 11 rfl rfl)
theorem dX4_readNumber_34 : decode cX4_readNumber 34 = .ok (.getfield 122, 3) := dk_180 0 122 (dk_at dksX4_readNumber_1 12 rfl rfl)
theorem dX4_readNumber_37 : decode cX4_readNumber 37 = .ok (.i2l, 1) := dk_133 (dk_at dksX4_readNumber_1 15 rfl rfl)
theorem dX4_readNumber_38 : decode cX4_readNumber 38 = .ok (.iload_n 1, 1) := dk_27 (dk_at dksX4_readNumber_1 16 rfl rfl)
theorem dX4_readNumber_39 : decode cX4_readNumber 39 = .ok (.i2l, 1) := dk_133 (dk_at dksX4_readNumber_1 17 rfl rfl)
theorem dX4_readNumber_40 : decode cX4_readNumber 40 = .ok (.iload_n 2, 1) := dk_28 (dk_at dksX4_readNumber_1 18 rfl rfl)
theorem dX4_readNumber_41 : decode cX4_readNumber 41 = .ok (.i2l, 1) := dk_133 (dk_at dksX4_readNumber_1 19 rfl rfl)
theorem dX4_readNumber_42 : decode cX4_readNumber 42 = .ok (.invokestatic 80, 3) := dk_184 0 80 (dk_at dksX4_readNumber_1 20 rfl rfl)
theorem dX4_readNumber_45 : decode cX4_readNumber 45 = .ok (.iconst 3, 1) := dk_6 (dk_at dksX4_readNumber_1 23 rfl rfl)
theorem dX4_readNumber_46 : decode cX4_readNumber 46 = .ok (.invokevirtual 125, 3) := dk_182 0 125 (dk_at dksX4_readNumber_2 0 rfl rfl)
theorem dX4_readNumber_49 : decode cX4_readNumber 49 = .ok (.aload_n 0, 1) := dk_42 (dk_at dksX4_readNumber_2 3 rfl rfl)
theorem dX4_readNumber_50 : decode cX4_readNumber 50 = .ok (.getfield 87, 3) := dk_180 0 87 (dk_at dksX4_readNumber_2 4 rfl rfl)
theorem dX4_readNumber_53 : decode cX4_readNumber 53 = .ok (.ifCond .ne 10, 3) := dk_154 0 10 (dk_at dksX4_readNumber_2 7 rfl rfl)
theorem dX4_readNumber_56 : decode cX4_readNumber 56 = .ok (.aload_n 0, 1) := dk_42 (dk_at dksX4_readNumber_2 10 rfl rfl)
theorem dX4_readNumber_57 : decode cX4_readNumber 57 = .ok (.getfield 122, 3) := dk_180 0 122 (dk_at dksX4_readNumber_2 11 rfl rfl)
theorem dX4_readNumber_60 : decode cX4_readNumber 60 = .ok (.goto 4, 3) := dk_167 0 4 (dk_at dksX4_readNumber_2 14 rfl rfl)
theorem dX4_readNumber_63 : decode cX4_readNumber 63 = .ok (.iconst 0, 1) := dk_3 (dk_at dksX4_readNumber_2 17 rfl rfl)
theorem dX4_readNumber_64 : decode cX4_readNumber 64 = .ok (.istore_n 3, 1) := dk_62 (dk_at dksX4_readNumber_2 18 rfl rfl)
theorem dX4_readNumber_65 : decode cX4_readNumber 65 = .ok (.aload_n 0, 1) := dk_42 (dk_at dksX4_readNumber_2 19 rfl rfl)
theorem dX4_readNumber_66 : decode cX4_readNumber 66 = .ok (.invokevirtual 129, 3) := dk_182 0 129 (dk_at dksX4_readNumber_2 20 rfl rfl)
theorem dX4_readNumber_69 : decode cX4_readNumber 69 = .ok (.iload_n 3, 1) := dk_29 (dk_at dksX4_readNumber_2 23 rfl rfl)
theorem dX4_readNumber_70 : decode cX4_readNumber 70 = .ok (.ireturn, 1) := dk_172 (dk_at dksX4_readNumber_3 0 rfl rfl)
abbrev cX4_readWord : ByteArray := prog_13_method_18_code
def yX4_readWord : MethodName := ⟨RX4, "readWord", "([II)V"⟩
def dkwX4_readWord_4 : List UInt8 := [29, 96, 42, 42, 180, 0, 90, 29, 96, 182, 0, 99, 79, 132, 3, 1, 167, 255, 223, 42, 182, 0, 129, 177]
abbrev dktX4_readWord_4 : List UInt8 := dkwX4_readWord_4 ++ []
def dkwX4_readWord_3 : List UInt8 := [180, 0, 90, 100, 79, 3, 62, 29, 42, 180, 0, 96, 42, 180, 0, 90, 100, 162, 0, 26, 43, 28, 4, 96]
abbrev dktX4_readWord_3 : List UInt8 := dkwX4_readWord_3 ++ dktX4_readWord_4
def dkwX4_readWord_2 : List UInt8 := [4, 167, 0, 4, 3, 6, 182, 0, 125, 42, 180, 0, 87, 154, 0, 53, 43, 28, 42, 180, 0, 96, 42]
abbrev dktX4_readWord_2 : List UInt8 := dkwX4_readWord_2 ++ dktX4_readWord_3
def dkwX4_readWord_1 : List UInt8 := [182, 0, 125, 42, 180, 0, 87, 154, 0, 26, 42, 42, 180, 0, 96, 42, 180, 0, 90, 100, 8, 163, 0, 7]
abbrev dktX4_readWord_1 : List UInt8 := dkwX4_readWord_1 ++ dktX4_readWord_2
def dkwX4_readWord_0 : List UInt8 := [42, 180, 0, 87, 154, 0, 21, 42, 42, 180, 0, 111, 4, 160, 0, 7, 4, 167, 0, 4, 3, 5]
abbrev dktX4_readWord_0 : List UInt8 := dkwX4_readWord_0 ++ dktX4_readWord_1
theorem dksX4_readWord_0 : cX4_readWord.data.toList.drop 0 = dktX4_readWord_0 := by decide +kernel
theorem dksX4_readWord_1 : cX4_readWord.data.toList.drop 22 = dktX4_readWord_1 := dk_seg dksX4_readWord_0 22 rfl rfl
theorem dksX4_readWord_2 : cX4_readWord.data.toList.drop 46 = dktX4_readWord_2 := dk_seg dksX4_readWord_1 24 rfl rfl
theorem dksX4_readWord_3 : cX4_readWord.data.toList.drop 69 = dktX4_readWord_3 := dk_seg dksX4_readWord_2 23 rfl rfl
theorem dksX4_readWord_4 : cX4_readWord.data.toList.drop 93 = dktX4_readWord_4 := dk_seg dksX4_readWord_3 24 rfl rfl
theorem dX4_readWord_0 : decode cX4_readWord 0 = .ok (.aload_n 0, 1) := dk_42 (dk_at dksX4_readWord_0 0 rfl rfl)
theorem dX4_readWord_1 : decode cX4_readWord 1 = .ok (.getfield 87, 3) := dk_180 0 87 (dk_at dksX4_readWord_0 1 rfl rfl)
theorem dX4_readWord_4 : decode cX4_readWord 4 = .ok (.ifCond .ne 21, 3) := dk_154 0 21 (dk_at dksX4_readWord_0 4 rfl rfl)
theorem dX4_readWord_7 : decode cX4_readWord 7 = .ok (.aload_n 0, 1) := dk_42 (dk_at dksX4_readWord_0 7 rfl rfl)
theorem dX4_readWord_8 : decode cX4_readWord 8 = .ok (.aload_n 0, 1) := dk_42 (dk_at dksX4_readWord_0 8 rfl rfl)
theorem dX4_readWord_9 : decode cX4_readWord 9 = .ok (.getfield 111, 3) := dk_180 0 111 (dk_at dksX4_readWord_0 9 rfl rfl)
theorem dX4_readWord_12 : decode cX4_readWord 12 = .ok (.iconst 1, 1) := dk_4 (dk_at dksX4_readWord_0 12 rfl rfl)
theorem dX4_readWord_13 : decode cX4_readWord 13 = .ok (.if_icmp .ne 7, 3) := dk_160 0 7 (dk_at dksX4_readWord_0 13 rfl rfl)
theorem dX4_readWord_16 : decode cX4_readWord 16 = .ok (.iconst 1, 1) := dk_4 (dk_at dksX4_readWord_0 16 rfl rfl)
theorem dX4_readWord_17 : decode cX4_readWord 17 = .ok (.goto 4, 3) := dk_167 0 4 (dk_at dksX4_readWord_0 17 rfl rfl)
theorem dX4_readWord_20 : decode cX4_readWord 20 = .ok (.iconst 0, 1) := dk_3 (dk_at dksX4_readWord_0 20 rfl rfl)
theorem dX4_readWord_21 : decode cX4_readWord 21 = .ok (.iconst 2, 1) := dk_5 (dk_at dksX4_readWord_0 21 rfl rfl)
theorem dX4_readWord_22 : decode cX4_readWord 22 = .ok (.invokevirtual 125, 3) := dk_182 0 125 (dk_at dksX4_readWord_1 0 rfl rfl)
theorem dX4_readWord_25 : decode cX4_readWord 25 = .ok (.aload_n 0, 1) := dk_42 (dk_at dksX4_readWord_1 3 rfl rfl)
theorem dX4_readWord_26 : decode cX4_readWord 26 = .ok (.getfield 87, 3) := dk_180 0 87 (dk_at dksX4_readWord_1 4 rfl rfl)
theorem dX4_readWord_29 : decode cX4_readWord 29 = .ok (.ifCond .ne 26, 3) := dk_154 0 26 (dk_at dksX4_readWord_1 7 rfl rfl)
theorem dX4_readWord_32 : decode cX4_readWord 32 = .ok (.aload_n 0, 1) := dk_42 (dk_at dksX4_readWord_1 10 rfl rfl)
theorem dX4_readWord_33 : decode cX4_readWord 33 = .ok (.aload_n 0, 1) := dk_42 (dk_at dksX4_readWord_1 11 rfl rfl)
theorem dX4_readWord_34 : decode cX4_readWord 34 = .ok (.getfield 96, 3) := dk_180 0 96 (dk_at dksX4_readWord_1 12 rfl rfl)
theorem dX4_readWord_37 : decode cX4_readWord 37 = .ok (.aload_n 0, 1) := dk_42 (dk_at dksX4_readWord_1 15 rfl rfl)
theorem dX4_readWord_38 : decode cX4_readWord 38 = .ok (.getfield 90, 3) := dk_180 0 90 (dk_at dksX4_readWord_1 16 rfl rfl)
theorem dX4_readWord_41 : decode cX4_readWord 41 = .ok (.isub, 1) := dk_100 (dk_at dksX4_readWord_1 19 rfl rfl)
theorem dX4_readWord_42 : decode cX4_readWord 42 = .ok (.iconst 5, 1) := dk_8 (dk_at dksX4_readWord_1 20 rfl rfl)
theorem dX4_readWord_43 : decode cX4_readWord 43 = .ok (.if_icmp .gt 7, 3) := dk_163 0 7 (dk_at dksX4_readWord_1 21 rfl rfl)
theorem dX4_readWord_46 : decode cX4_readWord 46 = .ok (.iconst 1, 1) := dk_4 (dk_at dksX4_readWord_2 0 rfl rfl)
theorem dX4_readWord_47 : decode cX4_readWord 47 = .ok (.goto 4, 3) := dk_167 0 4 (dk_at dksX4_readWord_2 1 rfl rfl)
theorem dX4_readWord_50 : decode cX4_readWord 50 = .ok (.iconst 0, 1) := dk_3 (dk_at dksX4_readWord_2 4 rfl rfl)
theorem dX4_readWord_51 : decode cX4_readWord 51 = .ok (.iconst 3, 1) := dk_6 (dk_at dksX4_readWord_2 5 rfl rfl)
theorem dX4_readWord_52 : decode cX4_readWord 52 = .ok (.invokevirtual 125, 3) := dk_182 0 125 (dk_at dksX4_readWord_2 6 rfl rfl)
theorem dX4_readWord_55 : decode cX4_readWord 55 = .ok (.aload_n 0, 1) := dk_42 (dk_at dksX4_readWord_2 9 rfl rfl)
theorem dX4_readWord_56 : decode cX4_readWord 56 = .ok (.getfield 87, 3) := dk_180 0 87 (dk_at dksX4_readWord_2 10 rfl rfl)
theorem dX4_readWord_59 : decode cX4_readWord 59 = .ok (.ifCond .ne 53, 3) := dk_154 0 53 (dk_at dksX4_readWord_2 13 rfl rfl)
theorem dX4_readWord_62 : decode cX4_readWord 62 = .ok (.aload_n 1, 1) := dk_43 (dk_at dksX4_readWord_2 16 rfl rfl)
theorem dX4_readWord_63 : decode cX4_readWord 63 = .ok (.iload_n 2, 1) := dk_28 (dk_at dksX4_readWord_2 17 rfl rfl)
theorem dX4_readWord_64 : decode cX4_readWord 64 = .ok (.aload_n 0, 1) := dk_42 (dk_at dksX4_readWord_2 18 rfl rfl)
theorem dX4_readWord_65 : decode cX4_readWord 65 = .ok (.getfield 96, 3) := dk_180 0 96 (dk_at dksX4_readWord_2 19 rfl rfl)
theorem dX4_readWord_68 : decode cX4_readWord 68 = .ok (.aload_n 0, 1) := dk_42 (dk_at dksX4_readWord_2 22 rfl rfl)
theorem dX4_readWord_69 : decode cX4_readWord 69 = .ok (.getfield 90, 3) := dk_180 0 90 (dk_at dksX4_readWord_3 0 rfl rfl)
theorem dX4_readWord_72 : decode cX4_readWord 72 = .ok (.isub, 1) := dk_100 (dk_at dksX4_readWord_3 3 rfl rfl)
theorem dX4_readWord_73 : decode cX4_readWord 73 = .ok (.iastore, 1) := dk_79 (dk_at dksX4_readWord_3 4 rfl rfl)
theorem dX4_readWord_74 : decode cX4_readWord 74 = .ok (.iconst 0, 1) := dk_3 (dk_at dksX4_readWord_3 5 rfl rfl)
theorem dX4_readWord_75 : decode cX4_readWord 75 = .ok (.istore_n 3, 1) := dk_62 (dk_at dksX4_readWord_3 6 rfl rfl)
theorem dX4_readWord_76 : decode cX4_readWord 76 = .ok (.iload_n 3, 1) := dk_29 (dk_at dksX4_readWord_3 7 rfl rfl)
theorem dX4_readWord_77 : decode cX4_readWord 77 = .ok (.aload_n 0, 1) := dk_42 (dk_at dksX4_readWord_3 8 rfl rfl)
theorem dX4_readWord_78 : decode cX4_readWord 78 = .ok (.getfield 96, 3) := dk_180 0 96 (dk_at dksX4_readWord_3 9 rfl rfl)
theorem dX4_readWord_81 : decode cX4_readWord 81 = .ok (.aload_n 0, 1) := dk_42 (dk_at dksX4_readWord_3 12 rfl rfl)
theorem dX4_readWord_82 : decode cX4_readWord 82 = .ok (.getfield 90, 3) := dk_180 0 90 (dk_at dksX4_readWord_3 13 rfl rfl)
theorem dX4_readWord_85 : decode cX4_readWord 85 = .ok (.isub, 1) := dk_100 (dk_at dksX4_readWord_3 16 rfl rfl)
theorem dX4_readWord_86 : decode cX4_readWord 86 = .ok (.if_icmp .ge 26, 3) := dk_162 0 26 (dk_at dksX4_readWord_3 17 rfl rfl)
theorem dX4_readWord_89 : decode cX4_readWord 89 = .ok (.aload_n 1, 1) := dk_43 (dk_at dksX4_readWord_3 20 rfl rfl)
theorem dX4_readWord_90 : decode cX4_readWord 90 = .ok (.iload_n 2, 1) := dk_28 (dk_at dksX4_readWord_3 21 rfl rfl)
theorem dX4_readWord_91 : decode cX4_readWord 91 = .ok (.iconst 1, 1) := dk_4 (dk_at dksX4_readWord_3 22 rfl rfl)
theorem dX4_readWord_92 : decode cX4_readWord 92 = .ok (.iadd, 1) := dk_96 (dk_at dksX4_readWord_3 23 rfl rfl)
theorem dX4_readWord_93 : decode cX4_readWord 93 = .ok (.iload_n 3, 1) := dk_29 (dk_at dksX4_readWord_4 0 rfl rfl)
theorem dX4_readWord_94 : decode cX4_readWord 94 = .ok (.iadd, 1) := dk_96 (dk_at dksX4_readWord_4 1 rfl rfl)
theorem dX4_readWord_95 : decode cX4_readWord 95 = .ok (.aload_n 0, 1) := dk_42 (dk_at dksX4_readWord_4 2 rfl rfl)
theorem dX4_readWord_96 : decode cX4_readWord 96 = .ok (.aload_n 0, 1) := dk_42 (dk_at dksX4_readWord_4 3 rfl rfl)
theorem dX4_readWord_97 : decode cX4_readWord 97 = .ok (.getfield 90, 3) := dk_180 0 90 (dk_at dksX4_readWord_4 4 rfl rfl)
theorem dX4_readWord_100 : decode cX4_readWord 100 = .ok (.iload_n 3, 1) := dk_29 (dk_at dksX4_readWord_4 7 rfl rfl)
theorem dX4_readWord_101 : decode cX4_readWord 101 = .ok (.iadd, 1) := dk_96 (dk_at dksX4_readWord_4 8 rfl rfl)
theorem dX4_readWord_102 : decode cX4_readWord 102 = .ok (.invokevirtual 99, 3) := dk_182 0 99 (dk_at dksX4_readWord_4 9 rfl rfl)
theorem dX4_readWord_105 : decode cX4_readWord 105 = .ok (.iastore, 1) := dk_79 (dk_at dksX4_readWord_4 12 rfl rfl)
theorem dX4_readWord_106 : decode cX4_readWord 106 = .ok (.iinc 3 1, 3) := dk_132 3 1 (dk_at dksX4_readWord_4 13 rfl rfl)
theorem dX4_readWord_109 : decode cX4_readWord 109 = .ok (.goto (-33), 3) := dk_167 255 223 (dk_at dksX4_readWord_4 16 rfl rfl)
theorem dX4_readWord_112 : decode cX4_readWord 112 = .ok (.aload_n 0, 1) := dk_42 (dk_at dksX4_readWord_4 19 rfl rfl)
theorem dX4_readWord_113 : decode cX4_readWord 113 = .ok (.invokevirtual 129, 3) := dk_182 0 129 (dk_at dksX4_readWord_4 20 rfl rfl)
theorem dX4_readWord_116 : decode cX4_readWord 116 = .ok (.return_, 1) := dk_177 (dk_at dksX4_readWord_4 23 rfl rfl)
abbrev cX4_doFit : ByteArray := prog_13_method_21_code
def yX4_doFit : MethodName := ⟨RX4, "doFit", "()Z"⟩
def dkwX4_doFit_3 : List UInt8 := [3, 60, 132, 2, 1, 167, 255, 183, 27, 172]
abbrev dktX4_doFit_3 : List UInt8 := dkwX4_doFit_3 ++ []
def dkwX4_doFit_2 : List UInt8 := [184, 0, 154, 96, 62, 132, 4, 1, 167, 255, 214, 27, 153, 0, 12, 29, 6, 163, 0, 7, 4, 167, 0, 4]
abbrev dktX4_doFit_2 : List UInt8 := dkwX4_doFit_2 ++ dktX4_doFit_3
def dkwX4_doFit_1 : List UInt8 := [42, 180, 0, 23, 16, 8, 16, 9, 21, 4, 104, 96, 5, 96, 46, 28, 160, 0, 7, 4, 167, 0, 4, 3]
abbrev dktX4_doFit_1 : List UInt8 := dkwX4_doFit_1 ++ dktX4_doFit_2
def dkwX4_doFit_0 : List UInt8 := [4, 60, 3, 61, 28, 7, 162, 0, 74, 3, 62, 3, 54, 4, 21, 4, 42, 180, 0, 60, 162, 0, 39, 29]
abbrev dktX4_doFit_0 : List UInt8 := dkwX4_doFit_0 ++ dktX4_doFit_1
theorem dksX4_doFit_0 : cX4_doFit.data.toList.drop 0 = dktX4_doFit_0 := by decide +kernel
theorem dksX4_doFit_1 : cX4_doFit.data.toList.drop 24 = dktX4_doFit_1 := dk_seg dksX4_doFit_0 24 rfl rfl
theorem dksX4_doFit_2 : cX4_doFit.data.toList.drop 48 = dktX4_doFit_2 := dk_seg dksX4_doFit_1 24 rfl rfl
theorem dksX4_doFit_3 : cX4_doFit.data.toList.drop 72 = dktX4_doFit_3 := dk_seg dksX4_doFit_2 24 rfl rfl
theorem dX4_doFit_0 : decode cX4_doFit 0 = .ok (.iconst 1, 1) := dk_4 (dk_at dksX4_doFit_0 0 rfl rfl)
theorem dX4_doFit_1 : decode cX4_doFit 1 = .ok (.istore_n 1, 1) := dk_60 (dk_at dksX4_doFit_0 1 rfl rfl)
theorem dX4_doFit_2 : decode cX4_doFit 2 = .ok (.iconst 0, 1) := dk_3 (dk_at dksX4_doFit_0 2 rfl rfl)
theorem dX4_doFit_3 : decode cX4_doFit 3 = .ok (.istore_n 2, 1) := dk_61 (dk_at dksX4_doFit_0 3 rfl rfl)
theorem dX4_doFit_4 : decode cX4_doFit 4 = .ok (.iload_n 2, 1) := dk_28 (dk_at dksX4_doFit_0 4 rfl rfl)
theorem dX4_doFit_5 : decode cX4_doFit 5 = .ok (.iconst 4, 1) := dk_7 (dk_at dksX4_doFit_0 5 rfl rfl)
theorem dX4_doFit_6 : decode cX4_doFit 6 = .ok (.if_icmp .ge 74, 3) := dk_162 0 74 (dk_at dksX4_doFit_0 6 rfl rfl)
theorem dX4_doFit_9 : decode cX4_doFit 9 = .ok (.iconst 0, 1) := dk_3 (dk_at dksX4_doFit_0 9 rfl rfl)
theorem dX4_doFit_10 : decode cX4_doFit 10 = .ok (.istore_n 3, 1) := dk_62 (dk_at dksX4_doFit_0 10 rfl rfl)
theorem dX4_doFit_11 : decode cX4_doFit 11 = .ok (.iconst 0, 1) := dk_3 (dk_at dksX4_doFit_0 11 rfl rfl)
theorem dX4_doFit_12 : decode cX4_doFit 12 = .ok (.istore 4, 2) := dk_54 4 (dk_at dksX4_doFit_0 12 rfl rfl)
theorem dX4_doFit_14 : decode cX4_doFit 14 = .ok (.iload 4, 2) := dk_21 4 (dk_at dksX4_doFit_0 14 rfl rfl)
theorem dX4_doFit_16 : decode cX4_doFit 16 = .ok (.aload_n 0, 1) := dk_42 (dk_at dksX4_doFit_0 16 rfl rfl)
theorem dX4_doFit_17 : decode cX4_doFit 17 = .ok (.getfield 60, 3) := dk_180 0 60 (dk_at dksX4_doFit_0 17 rfl rfl)
theorem dX4_doFit_20 : decode cX4_doFit 20 = .ok (.if_icmp .ge 39, 3) := dk_162 0 39 (dk_at dksX4_doFit_0 20 rfl rfl)
theorem dX4_doFit_23 : decode cX4_doFit 23 = .ok (.iload_n 3, 1) := dk_29 (dk_at dksX4_doFit_0 23 rfl rfl)
theorem dX4_doFit_24 : decode cX4_doFit 24 = .ok (.aload_n 0, 1) := dk_42 (dk_at dksX4_doFit_1 0 rfl rfl)
theorem dX4_doFit_25 : decode cX4_doFit 25 = .ok (.getfield 23, 3) := dk_180 0 23 (dk_at dksX4_doFit_1 1 rfl rfl)
theorem dX4_doFit_28 : decode cX4_doFit 28 = .ok (.bipush 8, 2) := dk_16 8 (dk_at dksX4_doFit_1 4 rfl rfl)
theorem dX4_doFit_30 : decode cX4_doFit 30 = .ok (.bipush 9, 2) := dk_16 9 (dk_at dksX4_doFit_1 6 rfl rfl)
theorem dX4_doFit_32 : decode cX4_doFit 32 = .ok (.iload 4, 2) := dk_21 4 (dk_at dksX4_doFit_1 8 rfl rfl)
theorem dX4_doFit_34 : decode cX4_doFit 34 = .ok (.imul, 1) := dk_104 (dk_at dksX4_doFit_1 10 rfl rfl)
theorem dX4_doFit_35 : decode cX4_doFit 35 = .ok (.iadd, 1) := dk_96 (dk_at dksX4_doFit_1 11 rfl rfl)
theorem dX4_doFit_36 : decode cX4_doFit 36 = .ok (.iconst 2, 1) := dk_5 (dk_at dksX4_doFit_1 12 rfl rfl)
theorem dX4_doFit_37 : decode cX4_doFit 37 = .ok (.iadd, 1) := dk_96 (dk_at dksX4_doFit_1 13 rfl rfl)
theorem dX4_doFit_38 : decode cX4_doFit 38 = .ok (.iaload, 1) := dk_46 (dk_at dksX4_doFit_1 14 rfl rfl)
theorem dX4_doFit_39 : decode cX4_doFit 39 = .ok (.iload_n 2, 1) := dk_28 (dk_at dksX4_doFit_1 15 rfl rfl)
theorem dX4_doFit_40 : decode cX4_doFit 40 = .ok (.if_icmp .ne 7, 3) := dk_160 0 7 (dk_at dksX4_doFit_1 16 rfl rfl)
theorem dX4_doFit_43 : decode cX4_doFit 43 = .ok (.iconst 1, 1) := dk_4 (dk_at dksX4_doFit_1 19 rfl rfl)
theorem dX4_doFit_44 : decode cX4_doFit 44 = .ok (.goto 4, 3) := dk_167 0 4 (dk_at dksX4_doFit_1 20 rfl rfl)
theorem dX4_doFit_47 : decode cX4_doFit 47 = .ok (.iconst 0, 1) := dk_3 (dk_at dksX4_doFit_1 23 rfl rfl)
theorem dX4_doFit_48 : decode cX4_doFit 48 = .ok (.invokestatic 154, 3) := dk_184 0 154 (dk_at dksX4_doFit_2 0 rfl rfl)
theorem dX4_doFit_51 : decode cX4_doFit 51 = .ok (.iadd, 1) := dk_96 (dk_at dksX4_doFit_2 3 rfl rfl)
theorem dX4_doFit_52 : decode cX4_doFit 52 = .ok (.istore_n 3, 1) := dk_62 (dk_at dksX4_doFit_2 4 rfl rfl)
theorem dX4_doFit_53 : decode cX4_doFit 53 = .ok (.iinc 4 1, 3) := dk_132 4 1 (dk_at dksX4_doFit_2 5 rfl rfl)
theorem dX4_doFit_56 : decode cX4_doFit 56 = .ok (.goto (-42), 3) := dk_167 255 214 (dk_at dksX4_doFit_2 8 rfl rfl)
theorem dX4_doFit_59 : decode cX4_doFit 59 = .ok (.iload_n 1, 1) := dk_27 (dk_at dksX4_doFit_2 11 rfl rfl)
theorem dX4_doFit_60 : decode cX4_doFit 60 = .ok (.ifCond .eq 12, 3) := dk_153 0 12 (dk_at dksX4_doFit_2 12 rfl rfl)
theorem dX4_doFit_63 : decode cX4_doFit 63 = .ok (.iload_n 3, 1) := dk_29 (dk_at dksX4_doFit_2 15 rfl rfl)
theorem dX4_doFit_64 : decode cX4_doFit 64 = .ok (.iconst 3, 1) := dk_6 (dk_at dksX4_doFit_2 16 rfl rfl)
theorem dX4_doFit_65 : decode cX4_doFit 65 = .ok (.if_icmp .gt 7, 3) := dk_163 0 7 (dk_at dksX4_doFit_2 17 rfl rfl)
theorem dX4_doFit_68 : decode cX4_doFit 68 = .ok (.iconst 1, 1) := dk_4 (dk_at dksX4_doFit_2 20 rfl rfl)
theorem dX4_doFit_69 : decode cX4_doFit 69 = .ok (.goto 4, 3) := dk_167 0 4 (dk_at dksX4_doFit_2 21 rfl rfl)
theorem dX4_doFit_72 : decode cX4_doFit 72 = .ok (.iconst 0, 1) := dk_3 (dk_at dksX4_doFit_3 0 rfl rfl)
theorem dX4_doFit_73 : decode cX4_doFit 73 = .ok (.istore_n 1, 1) := dk_60 (dk_at dksX4_doFit_3 1 rfl rfl)
theorem dX4_doFit_74 : decode cX4_doFit 74 = .ok (.iinc 2 1, 3) := dk_132 2 1 (dk_at dksX4_doFit_3 2 rfl rfl)
theorem dX4_doFit_77 : decode cX4_doFit 77 = .ok (.goto (-73), 3) := dk_167 255 183 (dk_at dksX4_doFit_3 5 rfl rfl)
theorem dX4_doFit_80 : decode cX4_doFit 80 = .ok (.iload_n 1, 1) := dk_27 (dk_at dksX4_doFit_3 8 rfl rfl)
theorem dX4_doFit_81 : decode cX4_doFit 81 = .ok (.ireturn, 1) := dk_172 (dk_at dksX4_doFit_3 9 rfl rfl)
abbrev cX4_flag : ByteArray := prog_13_method_4_code
def yX4_flag : MethodName := ⟨RX4, "flag", "(Z)I"⟩
def dkwX4_flag_0 : List UInt8 := [26, 153, 0, 7, 4, 167, 0, 4, 3, 172]
abbrev dktX4_flag_0 : List UInt8 := dkwX4_flag_0 ++ []
theorem dksX4_flag_0 : cX4_flag.data.toList.drop 0 = dktX4_flag_0 := by decide +kernel
theorem dX4_flag_0 : decode cX4_flag 0 = .ok (.iload_n 0, 1) := dk_26 (dk_at dksX4_flag_0 0 rfl rfl)
theorem dX4_flag_1 : decode cX4_flag 1 = .ok (.ifCond .eq 7, 3) := dk_153 0 7 (dk_at dksX4_flag_0 1 rfl rfl)
theorem dX4_flag_4 : decode cX4_flag 4 = .ok (.iconst 1, 1) := dk_4 (dk_at dksX4_flag_0 4 rfl rfl)
theorem dX4_flag_5 : decode cX4_flag 5 = .ok (.goto 4, 3) := dk_167 0 4 (dk_at dksX4_flag_0 5 rfl rfl)
theorem dX4_flag_8 : decode cX4_flag 8 = .ok (.iconst 0, 1) := dk_3 (dk_at dksX4_flag_0 8 rfl rfl)
theorem dX4_flag_9 : decode cX4_flag 9 = .ok (.ireturn, 1) := dk_172 (dk_at dksX4_flag_0 9 rfl rfl)
abbrev cX4_fault : ByteArray := prog_13_method_23_code
def yX4_fault : MethodName := ⟨RX4, "fault", "()I"⟩
theorem dX4_fault_0 : decode cX4_fault 0 = .ok (.aload_n 0, 1) := by decide +kernel
theorem dX4_fault_1 : decode cX4_fault 1 = .ok (.getfield 87, 3) := by decide +kernel
theorem dX4_fault_4 : decode cX4_fault 4 = .ok (.ireturn, 1) := by decide +kernel
abbrev cX4_rule : ByteArray := prog_13_method_50_code
def yX4_rule : MethodName := ⟨RX4, "rule", "(I)I"⟩
def dkwX4_rule_4 : List UInt8 := [2, 130, 126, 172, 42, 180, 0, 7, 16, 53, 46, 172, 2, 172]
abbrev dktX4_rule_4 : List UInt8 := dkwX4_rule_4 ++ []
def dkwX4_rule_3 : List UInt8 := [180, 0, 7, 16, 55, 46, 172, 42, 16, 252, 182, 0, 212, 172, 42, 182, 0, 215, 42, 16, 252, 182, 0, 212]
abbrev dktX4_rule_3 : List UInt8 := dkwX4_rule_3 ++ dktX4_rule_4
def dkwX4_rule_2 : List UInt8 := [42, 180, 0, 69, 172, 42, 180, 0, 72, 172, 42, 180, 0, 75, 172, 42, 180, 0, 7, 16, 54, 46, 172, 42]
abbrev dktX4_rule_2 : List UInt8 := dkwX4_rule_2 ++ dktX4_rule_3
def dkwX4_rule_1 : List UInt8 := [170, 0, 0, 0, 0, 0, 107, 0, 0, 0, 0, 0, 0, 0, 7, 0, 0, 0, 47, 0, 0, 0, 52, 0, 0, 0, 57, 0, 0, 0, 62, 0, 0, 0, 70, 0, 0, 0, 78, 0, 0, 0, 85, 0, 0, 0, 99]
abbrev dktX4_rule_1 : List UInt8 := dkwX4_rule_1 ++ dktX4_rule_2
def dkwX4_rule_0 : List UInt8 := [42, 182, 0, 209, 27]
abbrev dktX4_rule_0 : List UInt8 := dkwX4_rule_0 ++ dktX4_rule_1
theorem dksX4_rule_0 : cX4_rule.data.toList.drop 0 = dktX4_rule_0 := by decide +kernel
theorem dksX4_rule_1 : cX4_rule.data.toList.drop 5 = dktX4_rule_1 := dk_seg dksX4_rule_0 5 rfl rfl
theorem dksX4_rule_2 : cX4_rule.data.toList.drop 52 = dktX4_rule_2 := dk_seg dksX4_rule_1 47 rfl rfl
theorem dksX4_rule_3 : cX4_rule.data.toList.drop 76 = dktX4_rule_3 := dk_seg dksX4_rule_2 24 rfl rfl
theorem dksX4_rule_4 : cX4_rule.data.toList.drop 100 = dktX4_rule_4 := dk_seg dksX4_rule_3 24 rfl rfl
theorem dX4_rule_0 : decode cX4_rule 0 = .ok (.aload_n 0, 1) := dk_42 (dk_at dksX4_rule_0 0 rfl rfl)
theorem dX4_rule_1 : decode cX4_rule 1 = .ok (.invokevirtual 209, 3) := dk_182 0 209 (dk_at dksX4_rule_0 1 rfl rfl)
theorem dX4_rule_4 : decode cX4_rule 4 = .ok (.iload_n 1, 1) := dk_27 (dk_at dksX4_rule_0 4 rfl rfl)
theorem dX4_rule_5 : decode cX4_rule 5 = .ok (.tableswitch 107 0 7 #[47, 52, 57, 62, 70, 78, 85, 99], 47) := by decide +kernel
theorem dX4_rule_52 : decode cX4_rule 52 = .ok (.aload_n 0, 1) := dk_42 (dk_at dksX4_rule_2 0 rfl rfl)
theorem dX4_rule_53 : decode cX4_rule 53 = .ok (.getfield 69, 3) := dk_180 0 69 (dk_at dksX4_rule_2 1 rfl rfl)
theorem dX4_rule_56 : decode cX4_rule 56 = .ok (.ireturn, 1) := dk_172 (dk_at dksX4_rule_2 4 rfl rfl)
theorem dX4_rule_57 : decode cX4_rule 57 = .ok (.aload_n 0, 1) := dk_42 (dk_at dksX4_rule_2 5 rfl rfl)
theorem dX4_rule_58 : decode cX4_rule 58 = .ok (.getfield 72, 3) := dk_180 0 72 (dk_at dksX4_rule_2 6 rfl rfl)
theorem dX4_rule_61 : decode cX4_rule 61 = .ok (.ireturn, 1) := dk_172 (dk_at dksX4_rule_2 9 rfl rfl)
theorem dX4_rule_62 : decode cX4_rule 62 = .ok (.aload_n 0, 1) := dk_42 (dk_at dksX4_rule_2 10 rfl rfl)
theorem dX4_rule_63 : decode cX4_rule 63 = .ok (.getfield 75, 3) := dk_180 0 75 (dk_at dksX4_rule_2 11 rfl rfl)
theorem dX4_rule_66 : decode cX4_rule 66 = .ok (.ireturn, 1) := dk_172 (dk_at dksX4_rule_2 14 rfl rfl)
theorem dX4_rule_67 : decode cX4_rule 67 = .ok (.aload_n 0, 1) := dk_42 (dk_at dksX4_rule_2 15 rfl rfl)
theorem dX4_rule_68 : decode cX4_rule 68 = .ok (.getfield 7, 3) := dk_180 0 7 (dk_at dksX4_rule_2 16 rfl rfl)
theorem dX4_rule_71 : decode cX4_rule 71 = .ok (.bipush 54, 2) := dk_16 54 (dk_at dksX4_rule_2 19 rfl rfl)
theorem dX4_rule_73 : decode cX4_rule 73 = .ok (.iaload, 1) := dk_46 (dk_at dksX4_rule_2 21 rfl rfl)
theorem dX4_rule_74 : decode cX4_rule 74 = .ok (.ireturn, 1) := dk_172 (dk_at dksX4_rule_2 22 rfl rfl)
theorem dX4_rule_75 : decode cX4_rule 75 = .ok (.aload_n 0, 1) := dk_42 (dk_at dksX4_rule_2 23 rfl rfl)
theorem dX4_rule_76 : decode cX4_rule 76 = .ok (.getfield 7, 3) := dk_180 0 7 (dk_at dksX4_rule_3 0 rfl rfl)
theorem dX4_rule_79 : decode cX4_rule 79 = .ok (.bipush 55, 2) := dk_16 55 (dk_at dksX4_rule_3 3 rfl rfl)
theorem dX4_rule_81 : decode cX4_rule 81 = .ok (.iaload, 1) := dk_46 (dk_at dksX4_rule_3 5 rfl rfl)
theorem dX4_rule_82 : decode cX4_rule 82 = .ok (.ireturn, 1) := dk_172 (dk_at dksX4_rule_3 6 rfl rfl)
theorem dX4_rule_83 : decode cX4_rule 83 = .ok (.aload_n 0, 1) := dk_42 (dk_at dksX4_rule_3 7 rfl rfl)
theorem dX4_rule_84 : decode cX4_rule 84 = .ok (.bipush (-4), 2) := dk_16 252 (dk_at dksX4_rule_3 8 rfl rfl)
theorem dX4_rule_86 : decode cX4_rule 86 = .ok (.invokevirtual 212, 3) := dk_182 0 212 (dk_at dksX4_rule_3 10 rfl rfl)
theorem dX4_rule_89 : decode cX4_rule 89 = .ok (.ireturn, 1) := dk_172 (dk_at dksX4_rule_3 13 rfl rfl)
theorem dX4_rule_90 : decode cX4_rule 90 = .ok (.aload_n 0, 1) := dk_42 (dk_at dksX4_rule_3 14 rfl rfl)
theorem dX4_rule_91 : decode cX4_rule 91 = .ok (.invokevirtual 215, 3) := dk_182 0 215 (dk_at dksX4_rule_3 15 rfl rfl)
theorem dX4_rule_94 : decode cX4_rule 94 = .ok (.aload_n 0, 1) := dk_42 (dk_at dksX4_rule_3 18 rfl rfl)
theorem dX4_rule_95 : decode cX4_rule 95 = .ok (.bipush (-4), 2) := dk_16 252 (dk_at dksX4_rule_3 19 rfl rfl)
theorem dX4_rule_97 : decode cX4_rule 97 = .ok (.invokevirtual 212, 3) := dk_182 0 212 (dk_at dksX4_rule_3 21 rfl rfl)
theorem dX4_rule_100 : decode cX4_rule 100 = .ok (.iconst (-1), 1) := dk_2 (dk_at dksX4_rule_4 0 rfl rfl)
theorem dX4_rule_101 : decode cX4_rule 101 = .ok (.ixor, 1) := dk_130 (dk_at dksX4_rule_4 1 rfl rfl)
theorem dX4_rule_102 : decode cX4_rule 102 = .ok (.iand, 1) := dk_126 (dk_at dksX4_rule_4 2 rfl rfl)
theorem dX4_rule_103 : decode cX4_rule 103 = .ok (.ireturn, 1) := dk_172 (dk_at dksX4_rule_4 3 rfl rfl)
theorem dX4_rule_104 : decode cX4_rule 104 = .ok (.aload_n 0, 1) := dk_42 (dk_at dksX4_rule_4 4 rfl rfl)
theorem dX4_rule_105 : decode cX4_rule 105 = .ok (.getfield 7, 3) := dk_180 0 7 (dk_at dksX4_rule_4 5 rfl rfl)
theorem dX4_rule_108 : decode cX4_rule 108 = .ok (.bipush 53, 2) := dk_16 53 (dk_at dksX4_rule_4 8 rfl rfl)
theorem dX4_rule_110 : decode cX4_rule 110 = .ok (.iaload, 1) := dk_46 (dk_at dksX4_rule_4 10 rfl rfl)
theorem dX4_rule_111 : decode cX4_rule 111 = .ok (.ireturn, 1) := dk_172 (dk_at dksX4_rule_4 11 rfl rfl)
theorem dX4_rule_112 : decode cX4_rule 112 = .ok (.iconst (-1), 1) := dk_2 (dk_at dksX4_rule_4 12 rfl rfl)
theorem dX4_rule_113 : decode cX4_rule 113 = .ok (.ireturn, 1) := dk_172 (dk_at dksX4_rule_4 13 rfl rfl)
abbrev cX4_starts : ByteArray := prog_13_method_28_code
def yX4_starts : MethodName := ⟨RX4, "starts", "()V"⟩
def dkwX4_starts_1 : List UInt8 := [167, 255, 235, 177]
abbrev dktX4_starts_1 : List UInt8 := dkwX4_starts_1 ++ []
def dkwX4_starts_0 : List UInt8 := [3, 60, 27, 16, 75, 162, 0, 21, 42, 180, 0, 13, 27, 42, 180, 0, 7, 27, 46, 79, 132, 1, 1]
abbrev dktX4_starts_0 : List UInt8 := dkwX4_starts_0 ++ dktX4_starts_1
theorem dksX4_starts_0 : cX4_starts.data.toList.drop 0 = dktX4_starts_0 := by decide +kernel
theorem dksX4_starts_1 : cX4_starts.data.toList.drop 23 = dktX4_starts_1 := dk_seg dksX4_starts_0 23 rfl rfl
theorem dX4_starts_0 : decode cX4_starts 0 = .ok (.iconst 0, 1) := dk_3 (dk_at dksX4_starts_0 0 rfl rfl)
theorem dX4_starts_1 : decode cX4_starts 1 = .ok (.istore_n 1, 1) := dk_60 (dk_at dksX4_starts_0 1 rfl rfl)
theorem dX4_starts_2 : decode cX4_starts 2 = .ok (.iload_n 1, 1) := dk_27 (dk_at dksX4_starts_0 2 rfl rfl)
theorem dX4_starts_3 : decode cX4_starts 3 = .ok (.bipush 75, 2) := dk_16 75 (dk_at dksX4_starts_0 3 rfl rfl)
theorem dX4_starts_5 : decode cX4_starts 5 = .ok (.if_icmp .ge 21, 3) := dk_162 0 21 (dk_at dksX4_starts_0 5 rfl rfl)
theorem dX4_starts_8 : decode cX4_starts 8 = .ok (.aload_n 0, 1) := dk_42 (dk_at dksX4_starts_0 8 rfl rfl)
theorem dX4_starts_9 : decode cX4_starts 9 = .ok (.getfield 13, 3) := dk_180 0 13 (dk_at dksX4_starts_0 9 rfl rfl)
theorem dX4_starts_12 : decode cX4_starts 12 = .ok (.iload_n 1, 1) := dk_27 (dk_at dksX4_starts_0 12 rfl rfl)
theorem dX4_starts_13 : decode cX4_starts 13 = .ok (.aload_n 0, 1) := dk_42 (dk_at dksX4_starts_0 13 rfl rfl)
theorem dX4_starts_14 : decode cX4_starts 14 = .ok (.getfield 7, 3) := dk_180 0 7 (dk_at dksX4_starts_0 14 rfl rfl)
theorem dX4_starts_17 : decode cX4_starts 17 = .ok (.iload_n 1, 1) := dk_27 (dk_at dksX4_starts_0 17 rfl rfl)
theorem dX4_starts_18 : decode cX4_starts 18 = .ok (.iaload, 1) := dk_46 (dk_at dksX4_starts_0 18 rfl rfl)
theorem dX4_starts_19 : decode cX4_starts 19 = .ok (.iastore, 1) := dk_79 (dk_at dksX4_starts_0 19 rfl rfl)
theorem dX4_starts_20 : decode cX4_starts 20 = .ok (.iinc 1 1, 3) := dk_132 1 1 (dk_at dksX4_starts_0 20 rfl rfl)
theorem dX4_starts_23 : decode cX4_starts 23 = .ok (.goto (-21), 3) := dk_167 255 235 (dk_at dksX4_starts_1 0 rfl rfl)
theorem dX4_starts_26 : decode cX4_starts 26 = .ok (.return_, 1) := dk_177 (dk_at dksX4_starts_1 3 rfl rfl)
abbrev cX4_inPen : ByteArray := prog_13_method_39_code
def yX4_inPen : MethodName := ⟨RX4, "inPen", "(I)I"⟩
def dkwX4_inPen_1 : List UInt8 := [167, 0, 4, 3, 184, 0, 154, 29, 120, 128, 61, 132, 3, 1, 167, 255, 222, 28, 172]
abbrev dktX4_inPen_1 : List UInt8 := dkwX4_inPen_1 ++ []
def dkwX4_inPen_0 : List UInt8 := [3, 61, 3, 62, 29, 42, 180, 0, 72, 162, 0, 32, 28, 42, 29, 5, 182, 0, 165, 27, 160, 0, 7, 4]
abbrev dktX4_inPen_0 : List UInt8 := dkwX4_inPen_0 ++ dktX4_inPen_1
theorem dksX4_inPen_0 : cX4_inPen.data.toList.drop 0 = dktX4_inPen_0 := by decide +kernel
theorem dksX4_inPen_1 : cX4_inPen.data.toList.drop 24 = dktX4_inPen_1 := dk_seg dksX4_inPen_0 24 rfl rfl
theorem dX4_inPen_0 : decode cX4_inPen 0 = .ok (.iconst 0, 1) := dk_3 (dk_at dksX4_inPen_0 0 rfl rfl)
theorem dX4_inPen_1 : decode cX4_inPen 1 = .ok (.istore_n 2, 1) := dk_61 (dk_at dksX4_inPen_0 1 rfl rfl)
theorem dX4_inPen_2 : decode cX4_inPen 2 = .ok (.iconst 0, 1) := dk_3 (dk_at dksX4_inPen_0 2 rfl rfl)
theorem dX4_inPen_3 : decode cX4_inPen 3 = .ok (.istore_n 3, 1) := dk_62 (dk_at dksX4_inPen_0 3 rfl rfl)
theorem dX4_inPen_4 : decode cX4_inPen 4 = .ok (.iload_n 3, 1) := dk_29 (dk_at dksX4_inPen_0 4 rfl rfl)
theorem dX4_inPen_5 : decode cX4_inPen 5 = .ok (.aload_n 0, 1) := dk_42 (dk_at dksX4_inPen_0 5 rfl rfl)
theorem dX4_inPen_6 : decode cX4_inPen 6 = .ok (.getfield 72, 3) := dk_180 0 72 (dk_at dksX4_inPen_0 6 rfl rfl)
theorem dX4_inPen_9 : decode cX4_inPen 9 = .ok (.if_icmp .ge 32, 3) := dk_162 0 32 (dk_at dksX4_inPen_0 9 rfl rfl)
theorem dX4_inPen_12 : decode cX4_inPen 12 = .ok (.iload_n 2, 1) := dk_28 (dk_at dksX4_inPen_0 12 rfl rfl)
theorem dX4_inPen_13 : decode cX4_inPen 13 = .ok (.aload_n 0, 1) := dk_42 (dk_at dksX4_inPen_0 13 rfl rfl)
theorem dX4_inPen_14 : decode cX4_inPen 14 = .ok (.iload_n 3, 1) := dk_29 (dk_at dksX4_inPen_0 14 rfl rfl)
theorem dX4_inPen_15 : decode cX4_inPen 15 = .ok (.iconst 2, 1) := dk_5 (dk_at dksX4_inPen_0 15 rfl rfl)
theorem dX4_inPen_16 : decode cX4_inPen 16 = .ok (.invokevirtual 165, 3) := dk_182 0 165 (dk_at dksX4_inPen_0 16 rfl rfl)
theorem dX4_inPen_19 : decode cX4_inPen 19 = .ok (.iload_n 1, 1) := dk_27 (dk_at dksX4_inPen_0 19 rfl rfl)
theorem dX4_inPen_20 : decode cX4_inPen 20 = .ok (.if_icmp .ne 7, 3) := dk_160 0 7 (dk_at dksX4_inPen_0 20 rfl rfl)
theorem dX4_inPen_23 : decode cX4_inPen 23 = .ok (.iconst 1, 1) := dk_4 (dk_at dksX4_inPen_0 23 rfl rfl)
theorem dX4_inPen_24 : decode cX4_inPen 24 = .ok (.goto 4, 3) := dk_167 0 4 (dk_at dksX4_inPen_1 0 rfl rfl)
theorem dX4_inPen_27 : decode cX4_inPen 27 = .ok (.iconst 0, 1) := dk_3 (dk_at dksX4_inPen_1 3 rfl rfl)
theorem dX4_inPen_28 : decode cX4_inPen 28 = .ok (.invokestatic 154, 3) := dk_184 0 154 (dk_at dksX4_inPen_1 4 rfl rfl)
theorem dX4_inPen_31 : decode cX4_inPen 31 = .ok (.iload_n 3, 1) := dk_29 (dk_at dksX4_inPen_1 7 rfl rfl)
theorem dX4_inPen_32 : decode cX4_inPen 32 = .ok (.ishl, 1) := dk_120 (dk_at dksX4_inPen_1 8 rfl rfl)
theorem dX4_inPen_33 : decode cX4_inPen 33 = .ok (.ior, 1) := dk_128 (dk_at dksX4_inPen_1 9 rfl rfl)
theorem dX4_inPen_34 : decode cX4_inPen 34 = .ok (.istore_n 2, 1) := dk_61 (dk_at dksX4_inPen_1 10 rfl rfl)
theorem dX4_inPen_35 : decode cX4_inPen 35 = .ok (.iinc 3 1, 3) := dk_132 3 1 (dk_at dksX4_inPen_1 11 rfl rfl)
theorem dX4_inPen_38 : decode cX4_inPen 38 = .ok (.goto (-34), 3) := dk_167 255 222 (dk_at dksX4_inPen_1 14 rfl rfl)
theorem dX4_inPen_41 : decode cX4_inPen 41 = .ok (.iload_n 2, 1) := dk_28 (dk_at dksX4_inPen_1 17 rfl rfl)
theorem dX4_inPen_42 : decode cX4_inPen 42 = .ok (.ireturn, 1) := dk_172 (dk_at dksX4_inPen_1 18 rfl rfl)
abbrev cX4_of : ByteArray := prog_13_method_30_code
def yX4_of : MethodName := ⟨RX4, "of", "(II)I"⟩
def dkwX4_of_0 : List UInt8 := [42, 180, 0, 13, 16, 8, 16, 9, 27, 104, 96, 28, 96, 46, 172]
abbrev dktX4_of_0 : List UInt8 := dkwX4_of_0 ++ []
theorem dksX4_of_0 : cX4_of.data.toList.drop 0 = dktX4_of_0 := by decide +kernel
theorem dX4_of_0 : decode cX4_of 0 = .ok (.aload_n 0, 1) := dk_42 (dk_at dksX4_of_0 0 rfl rfl)
theorem dX4_of_1 : decode cX4_of 1 = .ok (.getfield 13, 3) := dk_180 0 13 (dk_at dksX4_of_0 1 rfl rfl)
theorem dX4_of_4 : decode cX4_of 4 = .ok (.bipush 8, 2) := dk_16 8 (dk_at dksX4_of_0 4 rfl rfl)
theorem dX4_of_6 : decode cX4_of 6 = .ok (.bipush 9, 2) := dk_16 9 (dk_at dksX4_of_0 6 rfl rfl)
theorem dX4_of_8 : decode cX4_of 8 = .ok (.iload_n 1, 1) := dk_27 (dk_at dksX4_of_0 8 rfl rfl)
theorem dX4_of_9 : decode cX4_of 9 = .ok (.imul, 1) := dk_104 (dk_at dksX4_of_0 9 rfl rfl)
theorem dX4_of_10 : decode cX4_of 10 = .ok (.iadd, 1) := dk_96 (dk_at dksX4_of_0 10 rfl rfl)
theorem dX4_of_11 : decode cX4_of 11 = .ok (.iload_n 2, 1) := dk_28 (dk_at dksX4_of_0 11 rfl rfl)
theorem dX4_of_12 : decode cX4_of 12 = .ok (.iadd, 1) := dk_96 (dk_at dksX4_of_0 12 rfl rfl)
theorem dX4_of_13 : decode cX4_of 13 = .ok (.iaload, 1) := dk_46 (dk_at dksX4_of_0 13 rfl rfl)
theorem dX4_of_14 : decode cX4_of 14 = .ok (.ireturn, 1) := dk_172 (dk_at dksX4_of_0 14 rfl rfl)
abbrev cX4_silentNow : ByteArray := prog_13_method_45_code
def yX4_silentNow : MethodName := ⟨RX4, "silentNow", "()I"⟩
def dkwX4_silentNow_1 : List UInt8 := [60, 132, 2, 1, 167, 255, 232, 27, 172]
abbrev dktX4_silentNow_1 : List UInt8 := dkwX4_silentNow_1 ++ []
def dkwX4_silentNow_0 : List UInt8 := [3, 60, 3, 61, 28, 42, 180, 0, 72, 162, 0, 22, 27, 42, 28, 182, 0, 172, 184, 0, 154, 28, 120, 128]
abbrev dktX4_silentNow_0 : List UInt8 := dkwX4_silentNow_0 ++ dktX4_silentNow_1
theorem dksX4_silentNow_0 : cX4_silentNow.data.toList.drop 0 = dktX4_silentNow_0 := by decide +kernel
theorem dksX4_silentNow_1 : cX4_silentNow.data.toList.drop 24 = dktX4_silentNow_1 := dk_seg dksX4_silentNow_0 24 rfl rfl
theorem dX4_silentNow_0 : decode cX4_silentNow 0 = .ok (.iconst 0, 1) := dk_3 (dk_at dksX4_silentNow_0 0 rfl rfl)
theorem dX4_silentNow_1 : decode cX4_silentNow 1 = .ok (.istore_n 1, 1) := dk_60 (dk_at dksX4_silentNow_0 1 rfl rfl)
theorem dX4_silentNow_2 : decode cX4_silentNow 2 = .ok (.iconst 0, 1) := dk_3 (dk_at dksX4_silentNow_0 2 rfl rfl)
theorem dX4_silentNow_3 : decode cX4_silentNow 3 = .ok (.istore_n 2, 1) := dk_61 (dk_at dksX4_silentNow_0 3 rfl rfl)
theorem dX4_silentNow_4 : decode cX4_silentNow 4 = .ok (.iload_n 2, 1) := dk_28 (dk_at dksX4_silentNow_0 4 rfl rfl)
theorem dX4_silentNow_5 : decode cX4_silentNow 5 = .ok (.aload_n 0, 1) := dk_42 (dk_at dksX4_silentNow_0 5 rfl rfl)
theorem dX4_silentNow_6 : decode cX4_silentNow 6 = .ok (.getfield 72, 3) := dk_180 0 72 (dk_at dksX4_silentNow_0 6 rfl rfl)
theorem dX4_silentNow_9 : decode cX4_silentNow 9 = .ok (.if_icmp .ge 22, 3) := dk_162 0 22 (dk_at dksX4_silentNow_0 9 rfl rfl)
theorem dX4_silentNow_12 : decode cX4_silentNow 12 = .ok (.iload_n 1, 1) := dk_27 (dk_at dksX4_silentNow_0 12 rfl rfl)
theorem dX4_silentNow_13 : decode cX4_silentNow 13 = .ok (.aload_n 0, 1) := dk_42 (dk_at dksX4_silentNow_0 13 rfl rfl)
theorem dX4_silentNow_14 : decode cX4_silentNow 14 = .ok (.iload_n 2, 1) := dk_28 (dk_at dksX4_silentNow_0 14 rfl rfl)
theorem dX4_silentNow_15 : decode cX4_silentNow 15 = .ok (.invokevirtual 172, 3) := dk_182 0 172 (dk_at dksX4_silentNow_0 15 rfl rfl)
theorem dX4_silentNow_18 : decode cX4_silentNow 18 = .ok (.invokestatic 154, 3) := dk_184 0 154 (dk_at dksX4_silentNow_0 18 rfl rfl)
theorem dX4_silentNow_21 : decode cX4_silentNow 21 = .ok (.iload_n 2, 1) := dk_28 (dk_at dksX4_silentNow_0 21 rfl rfl)
theorem dX4_silentNow_22 : decode cX4_silentNow 22 = .ok (.ishl, 1) := dk_120 (dk_at dksX4_silentNow_0 22 rfl rfl)
theorem dX4_silentNow_23 : decode cX4_silentNow 23 = .ok (.ior, 1) := dk_128 (dk_at dksX4_silentNow_0 23 rfl rfl)
theorem dX4_silentNow_24 : decode cX4_silentNow 24 = .ok (.istore_n 1, 1) := dk_60 (dk_at dksX4_silentNow_1 0 rfl rfl)
theorem dX4_silentNow_25 : decode cX4_silentNow 25 = .ok (.iinc 2 1, 3) := dk_132 2 1 (dk_at dksX4_silentNow_1 1 rfl rfl)
theorem dX4_silentNow_28 : decode cX4_silentNow 28 = .ok (.goto (-24), 3) := dk_167 255 232 (dk_at dksX4_silentNow_1 4 rfl rfl)
theorem dX4_silentNow_31 : decode cX4_silentNow 31 = .ok (.iload_n 1, 1) := dk_27 (dk_at dksX4_silentNow_1 7 rfl rfl)
theorem dX4_silentNow_32 : decode cX4_silentNow 32 = .ok (.ireturn, 1) := dk_172 (dk_at dksX4_silentNow_1 8 rfl rfl)
abbrev cX4_isSilent : ByteArray := prog_13_method_34_code
def yX4_isSilent : MethodName := ⟨RX4, "isSilent", "(I)Z"⟩
def dkwX4_isSilent_0 : List UInt8 := [42, 27, 4, 182, 0, 165, 153, 0, 12, 42, 27, 6, 182, 0, 165, 154, 0, 7, 4, 167, 0, 4, 3, 172]
abbrev dktX4_isSilent_0 : List UInt8 := dkwX4_isSilent_0 ++ []
theorem dksX4_isSilent_0 : cX4_isSilent.data.toList.drop 0 = dktX4_isSilent_0 := by decide +kernel
theorem dX4_isSilent_0 : decode cX4_isSilent 0 = .ok (.aload_n 0, 1) := dk_42 (dk_at dksX4_isSilent_0 0 rfl rfl)
theorem dX4_isSilent_1 : decode cX4_isSilent 1 = .ok (.iload_n 1, 1) := dk_27 (dk_at dksX4_isSilent_0 1 rfl rfl)
theorem dX4_isSilent_2 : decode cX4_isSilent 2 = .ok (.iconst 1, 1) := dk_4 (dk_at dksX4_isSilent_0 2 rfl rfl)
theorem dX4_isSilent_3 : decode cX4_isSilent 3 = .ok (.invokevirtual 165, 3) := dk_182 0 165 (dk_at dksX4_isSilent_0 3 rfl rfl)
theorem dX4_isSilent_6 : decode cX4_isSilent 6 = .ok (.ifCond .eq 12, 3) := dk_153 0 12 (dk_at dksX4_isSilent_0 6 rfl rfl)
theorem dX4_isSilent_9 : decode cX4_isSilent 9 = .ok (.aload_n 0, 1) := dk_42 (dk_at dksX4_isSilent_0 9 rfl rfl)
theorem dX4_isSilent_10 : decode cX4_isSilent 10 = .ok (.iload_n 1, 1) := dk_27 (dk_at dksX4_isSilent_0 10 rfl rfl)
theorem dX4_isSilent_11 : decode cX4_isSilent 11 = .ok (.iconst 3, 1) := dk_6 (dk_at dksX4_isSilent_0 11 rfl rfl)
theorem dX4_isSilent_12 : decode cX4_isSilent 12 = .ok (.invokevirtual 165, 3) := dk_182 0 165 (dk_at dksX4_isSilent_0 12 rfl rfl)
theorem dX4_isSilent_15 : decode cX4_isSilent 15 = .ok (.ifCond .ne 7, 3) := dk_154 0 7 (dk_at dksX4_isSilent_0 15 rfl rfl)
theorem dX4_isSilent_18 : decode cX4_isSilent 18 = .ok (.iconst 1, 1) := dk_4 (dk_at dksX4_isSilent_0 18 rfl rfl)
theorem dX4_isSilent_19 : decode cX4_isSilent 19 = .ok (.goto 4, 3) := dk_167 0 4 (dk_at dksX4_isSilent_0 19 rfl rfl)
theorem dX4_isSilent_22 : decode cX4_isSilent 22 = .ok (.iconst 0, 1) := dk_3 (dk_at dksX4_isSilent_0 22 rfl rfl)
theorem dX4_isSilent_23 : decode cX4_isSilent 23 = .ok (.ireturn, 1) := dk_172 (dk_at dksX4_isSilent_0 23 rfl rfl)
abbrev cX4_pen : ByteArray := prog_13_method_51_code
def yX4_pen : MethodName := ⟨RX4, "pen", "(II)I"⟩
def dkwX4_pen_2 : List UInt8 := [182, 0, 212, 172]
abbrev dktX4_pen_2 : List UInt8 := dkwX4_pen_2 ++ []
def dkwX4_pen_1 : List UInt8 := [182, 0, 209, 28, 5, 162, 0, 16, 42, 180, 0, 13, 5, 27, 104, 28, 96, 46, 167, 0, 8, 42, 27]
abbrev dktX4_pen_1 : List UInt8 := dkwX4_pen_1 ++ dktX4_pen_2
def dkwX4_pen_0 : List UInt8 := [42, 27, 182, 0, 218, 153, 0, 15, 28, 133, 9, 20, 0, 221, 184, 0, 80, 154, 0, 5, 2, 172, 42]
abbrev dktX4_pen_0 : List UInt8 := dkwX4_pen_0 ++ dktX4_pen_1
theorem dksX4_pen_0 : cX4_pen.data.toList.drop 0 = dktX4_pen_0 := by decide +kernel
theorem dksX4_pen_1 : cX4_pen.data.toList.drop 23 = dktX4_pen_1 := dk_seg dksX4_pen_0 23 rfl rfl
theorem dksX4_pen_2 : cX4_pen.data.toList.drop 46 = dktX4_pen_2 := dk_seg dksX4_pen_1 23 rfl rfl
theorem dX4_pen_0 : decode cX4_pen 0 = .ok (.aload_n 0, 1) := dk_42 (dk_at dksX4_pen_0 0 rfl rfl)
theorem dX4_pen_1 : decode cX4_pen 1 = .ok (.iload_n 1, 1) := dk_27 (dk_at dksX4_pen_0 1 rfl rfl)
theorem dX4_pen_2 : decode cX4_pen 2 = .ok (.invokevirtual 218, 3) := dk_182 0 218 (dk_at dksX4_pen_0 2 rfl rfl)
theorem dX4_pen_5 : decode cX4_pen 5 = .ok (.ifCond .eq 15, 3) := dk_153 0 15 (dk_at dksX4_pen_0 5 rfl rfl)
theorem dX4_pen_8 : decode cX4_pen 8 = .ok (.iload_n 2, 1) := dk_28 (dk_at dksX4_pen_0 8 rfl rfl)
theorem dX4_pen_9 : decode cX4_pen 9 = .ok (.i2l, 1) := dk_133 (dk_at dksX4_pen_0 9 rfl rfl)
theorem dX4_pen_10 : decode cX4_pen 10 = .ok (.lconst 0, 1) := dk_9 (dk_at dksX4_pen_0 10 rfl rfl)
theorem dX4_pen_11 : decode cX4_pen 11 = .ok (.ldc2_w 221, 3) := dk_20 0 221 (dk_at dksX4_pen_0 11 rfl rfl)
theorem dX4_pen_14 : decode cX4_pen 14 = .ok (.invokestatic 80, 3) := dk_184 0 80 (dk_at dksX4_pen_0 14 rfl rfl)
theorem dX4_pen_17 : decode cX4_pen 17 = .ok (.ifCond .ne 5, 3) := dk_154 0 5 (dk_at dksX4_pen_0 17 rfl rfl)
theorem dX4_pen_20 : decode cX4_pen 20 = .ok (.iconst (-1), 1) := dk_2 (dk_at dksX4_pen_0 20 rfl rfl)
theorem dX4_pen_21 : decode cX4_pen 21 = .ok (.ireturn, 1) := dk_172 (dk_at dksX4_pen_0 21 rfl rfl)
theorem dX4_pen_22 : decode cX4_pen 22 = .ok (.aload_n 0, 1) := dk_42 (dk_at dksX4_pen_0 22 rfl rfl)
theorem dX4_pen_23 : decode cX4_pen 23 = .ok (.invokevirtual 209, 3) := dk_182 0 209 (dk_at dksX4_pen_1 0 rfl rfl)
theorem dX4_pen_26 : decode cX4_pen 26 = .ok (.iload_n 2, 1) := dk_28 (dk_at dksX4_pen_1 3 rfl rfl)
theorem dX4_pen_27 : decode cX4_pen 27 = .ok (.iconst 2, 1) := dk_5 (dk_at dksX4_pen_1 4 rfl rfl)
theorem dX4_pen_28 : decode cX4_pen 28 = .ok (.if_icmp .ge 16, 3) := dk_162 0 16 (dk_at dksX4_pen_1 5 rfl rfl)
theorem dX4_pen_31 : decode cX4_pen 31 = .ok (.aload_n 0, 1) := dk_42 (dk_at dksX4_pen_1 8 rfl rfl)
theorem dX4_pen_32 : decode cX4_pen 32 = .ok (.getfield 13, 3) := dk_180 0 13 (dk_at dksX4_pen_1 9 rfl rfl)
theorem dX4_pen_35 : decode cX4_pen 35 = .ok (.iconst 2, 1) := dk_5 (dk_at dksX4_pen_1 12 rfl rfl)
theorem dX4_pen_36 : decode cX4_pen 36 = .ok (.iload_n 1, 1) := dk_27 (dk_at dksX4_pen_1 13 rfl rfl)
theorem dX4_pen_37 : decode cX4_pen 37 = .ok (.imul, 1) := dk_104 (dk_at dksX4_pen_1 14 rfl rfl)
theorem dX4_pen_38 : decode cX4_pen 38 = .ok (.iload_n 2, 1) := dk_28 (dk_at dksX4_pen_1 15 rfl rfl)
theorem dX4_pen_39 : decode cX4_pen 39 = .ok (.iadd, 1) := dk_96 (dk_at dksX4_pen_1 16 rfl rfl)
theorem dX4_pen_40 : decode cX4_pen 40 = .ok (.iaload, 1) := dk_46 (dk_at dksX4_pen_1 17 rfl rfl)
theorem dX4_pen_41 : decode cX4_pen 41 = .ok (.goto 8, 3) := dk_167 0 8 (dk_at dksX4_pen_1 18 rfl rfl)
theorem dX4_pen_44 : decode cX4_pen 44 = .ok (.aload_n 0, 1) := dk_42 (dk_at dksX4_pen_1 21 rfl rfl)
theorem dX4_pen_45 : decode cX4_pen 45 = .ok (.iload_n 1, 1) := dk_27 (dk_at dksX4_pen_1 22 rfl rfl)
theorem dX4_pen_46 : decode cX4_pen 46 = .ok (.invokevirtual 212, 3) := dk_182 0 212 (dk_at dksX4_pen_2 0 rfl rfl)
theorem dX4_pen_49 : decode cX4_pen 49 = .ok (.ireturn, 1) := dk_172 (dk_at dksX4_pen_2 3 rfl rfl)
abbrev cX4_isPen : ByteArray := prog_13_method_24_code
def yX4_isPen : MethodName := ⟨RX4, "isPen", "(I)Z"⟩
def dkwX4_isPen_0 : List UInt8 := [27, 133, 9, 42, 180, 0, 69, 4, 100, 133, 184, 0, 80, 172]
abbrev dktX4_isPen_0 : List UInt8 := dkwX4_isPen_0 ++ []
theorem dksX4_isPen_0 : cX4_isPen.data.toList.drop 0 = dktX4_isPen_0 := by decide +kernel
theorem dX4_isPen_0 : decode cX4_isPen 0 = .ok (.iload_n 1, 1) := dk_27 (dk_at dksX4_isPen_0 0 rfl rfl)
theorem dX4_isPen_1 : decode cX4_isPen 1 = .ok (.i2l, 1) := dk_133 (dk_at dksX4_isPen_0 1 rfl rfl)
theorem dX4_isPen_2 : decode cX4_isPen 2 = .ok (.lconst 0, 1) := dk_9 (dk_at dksX4_isPen_0 2 rfl rfl)
theorem dX4_isPen_3 : decode cX4_isPen 3 = .ok (.aload_n 0, 1) := dk_42 (dk_at dksX4_isPen_0 3 rfl rfl)
theorem dX4_isPen_4 : decode cX4_isPen 4 = .ok (.getfield 69, 3) := dk_180 0 69 (dk_at dksX4_isPen_0 4 rfl rfl)
theorem dX4_isPen_7 : decode cX4_isPen 7 = .ok (.iconst 1, 1) := dk_4 (dk_at dksX4_isPen_0 7 rfl rfl)
theorem dX4_isPen_8 : decode cX4_isPen 8 = .ok (.isub, 1) := dk_100 (dk_at dksX4_isPen_0 8 rfl rfl)
theorem dX4_isPen_9 : decode cX4_isPen 9 = .ok (.i2l, 1) := dk_133 (dk_at dksX4_isPen_0 9 rfl rfl)
theorem dX4_isPen_10 : decode cX4_isPen 10 = .ok (.invokestatic 80, 3) := dk_184 0 80 (dk_at dksX4_isPen_0 10 rfl rfl)
theorem dX4_isPen_13 : decode cX4_isPen 13 = .ok (.ireturn, 1) := dk_172 (dk_at dksX4_isPen_0 13 rfl rfl)
abbrev cX4_echo : ByteArray := prog_13_method_52_code
def yX4_echo : MethodName := ⟨RX4, "echo", "(II)I"⟩
def dkwX4_echo_3 : List UInt8 := [182, 0, 181, 172, 2, 172]
abbrev dktX4_echo_3 : List UInt8 := dkwX4_echo_3 ++ []
def dkwX4_echo_2 : List UInt8 := [42, 27, 28, 182, 0, 165, 172, 42, 27, 182, 0, 178, 172, 42, 27, 6, 182, 0, 165, 172, 42, 27]
abbrev dktX4_echo_2 : List UInt8 := dkwX4_echo_2 ++ dktX4_echo_3
def dkwX4_echo_1 : List UInt8 := [170, 0, 0, 0, 63, 0, 0, 0, 0, 0, 0, 0, 5, 0, 0, 0, 37, 0, 0, 0, 37, 0, 0, 0, 37, 0, 0, 0, 44, 0, 0, 0, 50, 0, 0, 0, 57]
abbrev dktX4_echo_1 : List UInt8 := dkwX4_echo_1 ++ dktX4_echo_2
def dkwX4_echo_0 : List UInt8 := [42, 27, 182, 0, 223, 154, 0, 5, 2, 172, 42, 182, 0, 209, 28]
abbrev dktX4_echo_0 : List UInt8 := dkwX4_echo_0 ++ dktX4_echo_1
theorem dksX4_echo_0 : cX4_echo.data.toList.drop 0 = dktX4_echo_0 := by decide +kernel
theorem dksX4_echo_1 : cX4_echo.data.toList.drop 15 = dktX4_echo_1 := dk_seg dksX4_echo_0 15 rfl rfl
theorem dksX4_echo_2 : cX4_echo.data.toList.drop 52 = dktX4_echo_2 := dk_seg dksX4_echo_1 37 rfl rfl
theorem dksX4_echo_3 : cX4_echo.data.toList.drop 74 = dktX4_echo_3 := dk_seg dksX4_echo_2 22 rfl rfl
theorem dX4_echo_0 : decode cX4_echo 0 = .ok (.aload_n 0, 1) := dk_42 (dk_at dksX4_echo_0 0 rfl rfl)
theorem dX4_echo_1 : decode cX4_echo 1 = .ok (.iload_n 1, 1) := dk_27 (dk_at dksX4_echo_0 1 rfl rfl)
theorem dX4_echo_2 : decode cX4_echo 2 = .ok (.invokevirtual 223, 3) := dk_182 0 223 (dk_at dksX4_echo_0 2 rfl rfl)
theorem dX4_echo_5 : decode cX4_echo 5 = .ok (.ifCond .ne 5, 3) := dk_154 0 5 (dk_at dksX4_echo_0 5 rfl rfl)
theorem dX4_echo_8 : decode cX4_echo 8 = .ok (.iconst (-1), 1) := dk_2 (dk_at dksX4_echo_0 8 rfl rfl)
theorem dX4_echo_9 : decode cX4_echo 9 = .ok (.ireturn, 1) := dk_172 (dk_at dksX4_echo_0 9 rfl rfl)
theorem dX4_echo_10 : decode cX4_echo 10 = .ok (.aload_n 0, 1) := dk_42 (dk_at dksX4_echo_0 10 rfl rfl)
theorem dX4_echo_11 : decode cX4_echo 11 = .ok (.invokevirtual 209, 3) := dk_182 0 209 (dk_at dksX4_echo_0 11 rfl rfl)
theorem dX4_echo_14 : decode cX4_echo 14 = .ok (.iload_n 2, 1) := dk_28 (dk_at dksX4_echo_0 14 rfl rfl)
theorem dX4_echo_15 : decode cX4_echo 15 = .ok (.tableswitch 63 0 5 #[37, 37, 37, 44, 50, 57], 37) := by decide +kernel
theorem dX4_echo_52 : decode cX4_echo 52 = .ok (.aload_n 0, 1) := dk_42 (dk_at dksX4_echo_2 0 rfl rfl)
theorem dX4_echo_53 : decode cX4_echo 53 = .ok (.iload_n 1, 1) := dk_27 (dk_at dksX4_echo_2 1 rfl rfl)
theorem dX4_echo_54 : decode cX4_echo 54 = .ok (.iload_n 2, 1) := dk_28 (dk_at dksX4_echo_2 2 rfl rfl)
theorem dX4_echo_55 : decode cX4_echo 55 = .ok (.invokevirtual 165, 3) := dk_182 0 165 (dk_at dksX4_echo_2 3 rfl rfl)
theorem dX4_echo_58 : decode cX4_echo 58 = .ok (.ireturn, 1) := dk_172 (dk_at dksX4_echo_2 6 rfl rfl)
theorem dX4_echo_59 : decode cX4_echo 59 = .ok (.aload_n 0, 1) := dk_42 (dk_at dksX4_echo_2 7 rfl rfl)
theorem dX4_echo_60 : decode cX4_echo 60 = .ok (.iload_n 1, 1) := dk_27 (dk_at dksX4_echo_2 8 rfl rfl)
theorem dX4_echo_61 : decode cX4_echo 61 = .ok (.invokevirtual 178, 3) := dk_182 0 178 (dk_at dksX4_echo_2 9 rfl rfl)
theorem dX4_echo_64 : decode cX4_echo 64 = .ok (.ireturn, 1) := dk_172 (dk_at dksX4_echo_2 12 rfl rfl)
theorem dX4_echo_65 : decode cX4_echo 65 = .ok (.aload_n 0, 1) := dk_42 (dk_at dksX4_echo_2 13 rfl rfl)
theorem dX4_echo_66 : decode cX4_echo 66 = .ok (.iload_n 1, 1) := dk_27 (dk_at dksX4_echo_2 14 rfl rfl)
theorem dX4_echo_67 : decode cX4_echo 67 = .ok (.iconst 3, 1) := dk_6 (dk_at dksX4_echo_2 15 rfl rfl)
theorem dX4_echo_68 : decode cX4_echo 68 = .ok (.invokevirtual 165, 3) := dk_182 0 165 (dk_at dksX4_echo_2 16 rfl rfl)
theorem dX4_echo_71 : decode cX4_echo 71 = .ok (.ireturn, 1) := dk_172 (dk_at dksX4_echo_2 19 rfl rfl)
theorem dX4_echo_72 : decode cX4_echo 72 = .ok (.aload_n 0, 1) := dk_42 (dk_at dksX4_echo_2 20 rfl rfl)
theorem dX4_echo_73 : decode cX4_echo 73 = .ok (.iload_n 1, 1) := dk_27 (dk_at dksX4_echo_2 21 rfl rfl)
theorem dX4_echo_74 : decode cX4_echo 74 = .ok (.invokevirtual 181, 3) := dk_182 0 181 (dk_at dksX4_echo_3 0 rfl rfl)
theorem dX4_echo_77 : decode cX4_echo 77 = .ok (.ireturn, 1) := dk_172 (dk_at dksX4_echo_3 3 rfl rfl)
theorem dX4_echo_78 : decode cX4_echo 78 = .ok (.iconst (-1), 1) := dk_2 (dk_at dksX4_echo_3 4 rfl rfl)
theorem dX4_echo_79 : decode cX4_echo 79 = .ok (.ireturn, 1) := dk_172 (dk_at dksX4_echo_3 5 rfl rfl)
abbrev cX4_isEcho : ByteArray := prog_13_method_25_code
def yX4_isEcho : MethodName := ⟨RX4, "isEcho", "(I)Z"⟩
def dkwX4_isEcho_0 : List UInt8 := [27, 133, 9, 42, 180, 0, 72, 4, 100, 133, 184, 0, 80, 172]
abbrev dktX4_isEcho_0 : List UInt8 := dkwX4_isEcho_0 ++ []
theorem dksX4_isEcho_0 : cX4_isEcho.data.toList.drop 0 = dktX4_isEcho_0 := by decide +kernel
theorem dX4_isEcho_0 : decode cX4_isEcho 0 = .ok (.iload_n 1, 1) := dk_27 (dk_at dksX4_isEcho_0 0 rfl rfl)
theorem dX4_isEcho_1 : decode cX4_isEcho 1 = .ok (.i2l, 1) := dk_133 (dk_at dksX4_isEcho_0 1 rfl rfl)
theorem dX4_isEcho_2 : decode cX4_isEcho 2 = .ok (.lconst 0, 1) := dk_9 (dk_at dksX4_isEcho_0 2 rfl rfl)
theorem dX4_isEcho_3 : decode cX4_isEcho 3 = .ok (.aload_n 0, 1) := dk_42 (dk_at dksX4_isEcho_0 3 rfl rfl)
theorem dX4_isEcho_4 : decode cX4_isEcho 4 = .ok (.getfield 72, 3) := dk_180 0 72 (dk_at dksX4_isEcho_0 4 rfl rfl)
theorem dX4_isEcho_7 : decode cX4_isEcho 7 = .ok (.iconst 1, 1) := dk_4 (dk_at dksX4_isEcho_0 7 rfl rfl)
theorem dX4_isEcho_8 : decode cX4_isEcho 8 = .ok (.isub, 1) := dk_100 (dk_at dksX4_isEcho_0 8 rfl rfl)
theorem dX4_isEcho_9 : decode cX4_isEcho 9 = .ok (.i2l, 1) := dk_133 (dk_at dksX4_isEcho_0 9 rfl rfl)
theorem dX4_isEcho_10 : decode cX4_isEcho 10 = .ok (.invokestatic 80, 3) := dk_184 0 80 (dk_at dksX4_isEcho_0 10 rfl rfl)
theorem dX4_isEcho_13 : decode cX4_isEcho 13 = .ok (.ireturn, 1) := dk_172 (dk_at dksX4_isEcho_0 13 rfl rfl)
abbrev cX4_returnsOf : ByteArray := prog_13_method_35_code
def yX4_returnsOf : MethodName := ⟨RX4, "returnsOf", "(I)I"⟩
def dkwX4_returnsOf_2 : List UInt8 := [27, 3, 182, 0, 165, 5, 160, 0, 9, 28, 4, 96, 167, 0, 4, 28, 172]
abbrev dktX4_returnsOf_2 : List UInt8 := dkwX4_returnsOf_2 ++ []
def dkwX4_returnsOf_1 : List UInt8 := [42, 27, 182, 0, 175, 108, 61, 42, 27, 3, 182, 0, 165, 4, 160, 0, 9, 5, 28, 104, 167, 0, 20, 42]
abbrev dktX4_returnsOf_1 : List UInt8 := dkwX4_returnsOf_1 ++ dktX4_returnsOf_2
def dkwX4_returnsOf_0 : List UInt8 := [42, 27, 182, 0, 168, 154, 0, 11, 42, 27, 182, 0, 172, 153, 0, 5, 3, 172, 42, 27, 4, 182, 0, 165]
abbrev dktX4_returnsOf_0 : List UInt8 := dkwX4_returnsOf_0 ++ dktX4_returnsOf_1
theorem dksX4_returnsOf_0 : cX4_returnsOf.data.toList.drop 0 = dktX4_returnsOf_0 := by decide +kernel
theorem dksX4_returnsOf_1 : cX4_returnsOf.data.toList.drop 24 = dktX4_returnsOf_1 := dk_seg dksX4_returnsOf_0 24 rfl rfl
theorem dksX4_returnsOf_2 : cX4_returnsOf.data.toList.drop 48 = dktX4_returnsOf_2 := dk_seg dksX4_returnsOf_1 24 rfl rfl
theorem dX4_returnsOf_0 : decode cX4_returnsOf 0 = .ok (.aload_n 0, 1) := dk_42 (dk_at dksX4_returnsOf_0 0 rfl rfl)
theorem dX4_returnsOf_1 : decode cX4_returnsOf 1 = .ok (.iload_n 1, 1) := dk_27 (dk_at dksX4_returnsOf_0 1 rfl rfl)
theorem dX4_returnsOf_2 : decode cX4_returnsOf 2 = .ok (.invokevirtual 168, 3) := dk_182 0 168 (dk_at dksX4_returnsOf_0 2 rfl rfl)
theorem dX4_returnsOf_5 : decode cX4_returnsOf 5 = .ok (.ifCond .ne 11, 3) := dk_154 0 11 (dk_at dksX4_returnsOf_0 5 rfl rfl)
theorem dX4_returnsOf_8 : decode cX4_returnsOf 8 = .ok (.aload_n 0, 1) := dk_42 (dk_at dksX4_returnsOf_0 8 rfl rfl)
theorem dX4_returnsOf_9 : decode cX4_returnsOf 9 = .ok (.iload_n 1, 1) := dk_27 (dk_at dksX4_returnsOf_0 9 rfl rfl)
theorem dX4_returnsOf_10 : decode cX4_returnsOf 10 = .ok (.invokevirtual 172, 3) := dk_182 0 172 (dk_at dksX4_returnsOf_0 10 rfl rfl)
theorem dX4_returnsOf_13 : decode cX4_returnsOf 13 = .ok (.ifCond .eq 5, 3) := dk_153 0 5 (dk_at dksX4_returnsOf_0 13 rfl rfl)
theorem dX4_returnsOf_16 : decode cX4_returnsOf 16 = .ok (.iconst 0, 1) := dk_3 (dk_at dksX4_returnsOf_0 16 rfl rfl)
theorem dX4_returnsOf_17 : decode cX4_returnsOf 17 = .ok (.ireturn, 1) := dk_172 (dk_at dksX4_returnsOf_0 17 rfl rfl)
theorem dX4_returnsOf_18 : decode cX4_returnsOf 18 = .ok (.aload_n 0, 1) := dk_42 (dk_at dksX4_returnsOf_0 18 rfl rfl)
theorem dX4_returnsOf_19 : decode cX4_returnsOf 19 = .ok (.iload_n 1, 1) := dk_27 (dk_at dksX4_returnsOf_0 19 rfl rfl)
theorem dX4_returnsOf_20 : decode cX4_returnsOf 20 = .ok (.iconst 1, 1) := dk_4 (dk_at dksX4_returnsOf_0 20 rfl rfl)
theorem dX4_returnsOf_21 : decode cX4_returnsOf 21 = .ok (.invokevirtual 165, 3) := dk_182 0 165 (dk_at dksX4_returnsOf_0 21 rfl rfl)
theorem dX4_returnsOf_24 : decode cX4_returnsOf 24 = .ok (.aload_n 0, 1) := dk_42 (dk_at dksX4_returnsOf_1 0 rfl rfl)
theorem dX4_returnsOf_25 : decode cX4_returnsOf 25 = .ok (.iload_n 1, 1) := dk_27 (dk_at dksX4_returnsOf_1 1 rfl rfl)
theorem dX4_returnsOf_26 : decode cX4_returnsOf 26 = .ok (.invokevirtual 175, 3) := dk_182 0 175 (dk_at dksX4_returnsOf_1 2 rfl rfl)
theorem dX4_returnsOf_29 : decode cX4_returnsOf 29 = .ok (.idiv, 1) := dk_108 (dk_at dksX4_returnsOf_1 5 rfl rfl)
theorem dX4_returnsOf_30 : decode cX4_returnsOf 30 = .ok (.istore_n 2, 1) := dk_61 (dk_at dksX4_returnsOf_1 6 rfl rfl)
theorem dX4_returnsOf_31 : decode cX4_returnsOf 31 = .ok (.aload_n 0, 1) := dk_42 (dk_at dksX4_returnsOf_1 7 rfl rfl)
theorem dX4_returnsOf_32 : decode cX4_returnsOf 32 = .ok (.iload_n 1, 1) := dk_27 (dk_at dksX4_returnsOf_1 8 rfl rfl)
theorem dX4_returnsOf_33 : decode cX4_returnsOf 33 = .ok (.iconst 0, 1) := dk_3 (dk_at dksX4_returnsOf_1 9 rfl rfl)
theorem dX4_returnsOf_34 : decode cX4_returnsOf 34 = .ok (.invokevirtual 165, 3) := dk_182 0 165 (dk_at dksX4_returnsOf_1 10 rfl rfl)
theorem dX4_returnsOf_37 : decode cX4_returnsOf 37 = .ok (.iconst 1, 1) := dk_4 (dk_at dksX4_returnsOf_1 13 rfl rfl)
theorem dX4_returnsOf_38 : decode cX4_returnsOf 38 = .ok (.if_icmp .ne 9, 3) := dk_160 0 9 (dk_at dksX4_returnsOf_1 14 rfl rfl)
theorem dX4_returnsOf_41 : decode cX4_returnsOf 41 = .ok (.iconst 2, 1) := dk_5 (dk_at dksX4_returnsOf_1 17 rfl rfl)
theorem dX4_returnsOf_42 : decode cX4_returnsOf 42 = .ok (.iload_n 2, 1) := dk_28 (dk_at dksX4_returnsOf_1 18 rfl rfl)
theorem dX4_returnsOf_43 : decode cX4_returnsOf 43 = .ok (.imul, 1) := dk_104 (dk_at dksX4_returnsOf_1 19 rfl rfl)
theorem dX4_returnsOf_44 : decode cX4_returnsOf 44 = .ok (.goto 20, 3) := dk_167 0 20 (dk_at dksX4_returnsOf_1 20 rfl rfl)
theorem dX4_returnsOf_47 : decode cX4_returnsOf 47 = .ok (.aload_n 0, 1) := dk_42 (dk_at dksX4_returnsOf_1 23 rfl rfl)
theorem dX4_returnsOf_48 : decode cX4_returnsOf 48 = .ok (.iload_n 1, 1) := dk_27 (dk_at dksX4_returnsOf_2 0 rfl rfl)
theorem dX4_returnsOf_49 : decode cX4_returnsOf 49 = .ok (.iconst 0, 1) := dk_3 (dk_at dksX4_returnsOf_2 1 rfl rfl)
theorem dX4_returnsOf_50 : decode cX4_returnsOf 50 = .ok (.invokevirtual 165, 3) := dk_182 0 165 (dk_at dksX4_returnsOf_2 2 rfl rfl)
theorem dX4_returnsOf_53 : decode cX4_returnsOf 53 = .ok (.iconst 2, 1) := dk_5 (dk_at dksX4_returnsOf_2 5 rfl rfl)
theorem dX4_returnsOf_54 : decode cX4_returnsOf 54 = .ok (.if_icmp .ne 9, 3) := dk_160 0 9 (dk_at dksX4_returnsOf_2 6 rfl rfl)
theorem dX4_returnsOf_57 : decode cX4_returnsOf 57 = .ok (.iload_n 2, 1) := dk_28 (dk_at dksX4_returnsOf_2 9 rfl rfl)
theorem dX4_returnsOf_58 : decode cX4_returnsOf 58 = .ok (.iconst 1, 1) := dk_4 (dk_at dksX4_returnsOf_2 10 rfl rfl)
theorem dX4_returnsOf_59 : decode cX4_returnsOf 59 = .ok (.iadd, 1) := dk_96 (dk_at dksX4_returnsOf_2 11 rfl rfl)
theorem dX4_returnsOf_60 : decode cX4_returnsOf 60 = .ok (.goto 4, 3) := dk_167 0 4 (dk_at dksX4_returnsOf_2 12 rfl rfl)
theorem dX4_returnsOf_63 : decode cX4_returnsOf 63 = .ok (.iload_n 2, 1) := dk_28 (dk_at dksX4_returnsOf_2 15 rfl rfl)
theorem dX4_returnsOf_64 : decode cX4_returnsOf 64 = .ok (.ireturn, 1) := dk_172 (dk_at dksX4_returnsOf_2 16 rfl rfl)
abbrev cX4_isSold : ByteArray := prog_13_method_33_code
def yX4_isSold : MethodName := ⟨RX4, "isSold", "(I)Z"⟩
def dkwX4_isSold_0 : List UInt8 := [42, 27, 5, 182, 0, 165, 16, 252, 160, 0, 7, 4, 167, 0, 4, 3, 172]
abbrev dktX4_isSold_0 : List UInt8 := dkwX4_isSold_0 ++ []
theorem dksX4_isSold_0 : cX4_isSold.data.toList.drop 0 = dktX4_isSold_0 := by decide +kernel
theorem dX4_isSold_0 : decode cX4_isSold 0 = .ok (.aload_n 0, 1) := dk_42 (dk_at dksX4_isSold_0 0 rfl rfl)
theorem dX4_isSold_1 : decode cX4_isSold 1 = .ok (.iload_n 1, 1) := dk_27 (dk_at dksX4_isSold_0 1 rfl rfl)
theorem dX4_isSold_2 : decode cX4_isSold 2 = .ok (.iconst 2, 1) := dk_5 (dk_at dksX4_isSold_0 2 rfl rfl)
theorem dX4_isSold_3 : decode cX4_isSold 3 = .ok (.invokevirtual 165, 3) := dk_182 0 165 (dk_at dksX4_isSold_0 3 rfl rfl)
theorem dX4_isSold_6 : decode cX4_isSold 6 = .ok (.bipush (-4), 2) := dk_16 252 (dk_at dksX4_isSold_0 6 rfl rfl)
theorem dX4_isSold_8 : decode cX4_isSold 8 = .ok (.if_icmp .ne 7, 3) := dk_160 0 7 (dk_at dksX4_isSold_0 8 rfl rfl)
theorem dX4_isSold_11 : decode cX4_isSold 11 = .ok (.iconst 1, 1) := dk_4 (dk_at dksX4_isSold_0 11 rfl rfl)
theorem dX4_isSold_12 : decode cX4_isSold 12 = .ok (.goto 4, 3) := dk_167 0 4 (dk_at dksX4_isSold_0 12 rfl rfl)
theorem dX4_isSold_15 : decode cX4_isSold 15 = .ok (.iconst 0, 1) := dk_3 (dk_at dksX4_isSold_0 15 rfl rfl)
theorem dX4_isSold_16 : decode cX4_isSold 16 = .ok (.ireturn, 1) := dk_172 (dk_at dksX4_isSold_0 16 rfl rfl)
abbrev cX4_distanceOf : ByteArray := prog_13_method_32_code
def yX4_distanceOf : MethodName := ⟨RX4, "distanceOf", "(I)I"⟩
def dkwX4_distanceOf_0 : List UInt8 := [42, 180, 0, 13, 5, 42, 27, 5, 182, 0, 165, 104, 3, 96, 46, 172]
abbrev dktX4_distanceOf_0 : List UInt8 := dkwX4_distanceOf_0 ++ []
theorem dksX4_distanceOf_0 : cX4_distanceOf.data.toList.drop 0 = dktX4_distanceOf_0 := by decide +kernel
theorem dX4_distanceOf_0 : decode cX4_distanceOf 0 = .ok (.aload_n 0, 1) := dk_42 (dk_at dksX4_distanceOf_0 0 rfl rfl)
theorem dX4_distanceOf_1 : decode cX4_distanceOf 1 = .ok (.getfield 13, 3) := dk_180 0 13 (dk_at dksX4_distanceOf_0 1 rfl rfl)
theorem dX4_distanceOf_4 : decode cX4_distanceOf 4 = .ok (.iconst 2, 1) := dk_5 (dk_at dksX4_distanceOf_0 4 rfl rfl)
theorem dX4_distanceOf_5 : decode cX4_distanceOf 5 = .ok (.aload_n 0, 1) := dk_42 (dk_at dksX4_distanceOf_0 5 rfl rfl)
theorem dX4_distanceOf_6 : decode cX4_distanceOf 6 = .ok (.iload_n 1, 1) := dk_27 (dk_at dksX4_distanceOf_0 6 rfl rfl)
theorem dX4_distanceOf_7 : decode cX4_distanceOf 7 = .ok (.iconst 2, 1) := dk_5 (dk_at dksX4_distanceOf_0 7 rfl rfl)
theorem dX4_distanceOf_8 : decode cX4_distanceOf 8 = .ok (.invokevirtual 165, 3) := dk_182 0 165 (dk_at dksX4_distanceOf_0 8 rfl rfl)
theorem dX4_distanceOf_11 : decode cX4_distanceOf 11 = .ok (.imul, 1) := dk_104 (dk_at dksX4_distanceOf_0 11 rfl rfl)
theorem dX4_distanceOf_12 : decode cX4_distanceOf 12 = .ok (.iconst 0, 1) := dk_3 (dk_at dksX4_distanceOf_0 12 rfl rfl)
theorem dX4_distanceOf_13 : decode cX4_distanceOf 13 = .ok (.iadd, 1) := dk_96 (dk_at dksX4_distanceOf_0 13 rfl rfl)
theorem dX4_distanceOf_14 : decode cX4_distanceOf 14 = .ok (.iaload, 1) := dk_46 (dk_at dksX4_distanceOf_0 14 rfl rfl)
theorem dX4_distanceOf_15 : decode cX4_distanceOf 15 = .ok (.ireturn, 1) := dk_172 (dk_at dksX4_distanceOf_0 15 rfl rfl)
abbrev cX4_periodOf : ByteArray := prog_13_method_36_code
def yX4_periodOf : MethodName := ⟨RX4, "periodOf", "(I)I"⟩
def dkwX4_periodOf_1 : List UInt8 := [172]
abbrev dktX4_periodOf_1 : List UInt8 := dkwX4_periodOf_1 ++ []
def dkwX4_periodOf_0 : List UInt8 := [42, 27, 182, 0, 168, 153, 0, 7, 3, 167, 0, 15, 42, 27, 182, 0, 175, 42, 27, 6, 182, 0, 165, 96]
abbrev dktX4_periodOf_0 : List UInt8 := dkwX4_periodOf_0 ++ dktX4_periodOf_1
theorem dksX4_periodOf_0 : cX4_periodOf.data.toList.drop 0 = dktX4_periodOf_0 := by decide +kernel
theorem dksX4_periodOf_1 : cX4_periodOf.data.toList.drop 24 = dktX4_periodOf_1 := dk_seg dksX4_periodOf_0 24 rfl rfl
theorem dX4_periodOf_0 : decode cX4_periodOf 0 = .ok (.aload_n 0, 1) := dk_42 (dk_at dksX4_periodOf_0 0 rfl rfl)
theorem dX4_periodOf_1 : decode cX4_periodOf 1 = .ok (.iload_n 1, 1) := dk_27 (dk_at dksX4_periodOf_0 1 rfl rfl)
theorem dX4_periodOf_2 : decode cX4_periodOf 2 = .ok (.invokevirtual 168, 3) := dk_182 0 168 (dk_at dksX4_periodOf_0 2 rfl rfl)
theorem dX4_periodOf_5 : decode cX4_periodOf 5 = .ok (.ifCond .eq 7, 3) := dk_153 0 7 (dk_at dksX4_periodOf_0 5 rfl rfl)
theorem dX4_periodOf_8 : decode cX4_periodOf 8 = .ok (.iconst 0, 1) := dk_3 (dk_at dksX4_periodOf_0 8 rfl rfl)
theorem dX4_periodOf_9 : decode cX4_periodOf 9 = .ok (.goto 15, 3) := dk_167 0 15 (dk_at dksX4_periodOf_0 9 rfl rfl)
theorem dX4_periodOf_12 : decode cX4_periodOf 12 = .ok (.aload_n 0, 1) := dk_42 (dk_at dksX4_periodOf_0 12 rfl rfl)
theorem dX4_periodOf_13 : decode cX4_periodOf 13 = .ok (.iload_n 1, 1) := dk_27 (dk_at dksX4_periodOf_0 13 rfl rfl)
theorem dX4_periodOf_14 : decode cX4_periodOf 14 = .ok (.invokevirtual 175, 3) := dk_182 0 175 (dk_at dksX4_periodOf_0 14 rfl rfl)
theorem dX4_periodOf_17 : decode cX4_periodOf 17 = .ok (.aload_n 0, 1) := dk_42 (dk_at dksX4_periodOf_0 17 rfl rfl)
theorem dX4_periodOf_18 : decode cX4_periodOf 18 = .ok (.iload_n 1, 1) := dk_27 (dk_at dksX4_periodOf_0 18 rfl rfl)
theorem dX4_periodOf_19 : decode cX4_periodOf 19 = .ok (.iconst 3, 1) := dk_6 (dk_at dksX4_periodOf_0 19 rfl rfl)
theorem dX4_periodOf_20 : decode cX4_periodOf 20 = .ok (.invokevirtual 165, 3) := dk_182 0 165 (dk_at dksX4_periodOf_0 20 rfl rfl)
theorem dX4_periodOf_23 : decode cX4_periodOf 23 = .ok (.iadd, 1) := dk_96 (dk_at dksX4_periodOf_0 23 rfl rfl)
theorem dX4_periodOf_24 : decode cX4_periodOf 24 = .ok (.ireturn, 1) := dk_172 (dk_at dksX4_periodOf_1 0 rfl rfl)
abbrev cX4_letter : ByteArray := prog_13_method_53_code
def yX4_letter : MethodName := ⟨RX4, "letter", "(II)I"⟩
def dkwX4_letter_1 : List UInt8 := [100, 133, 184, 0, 80, 153, 0, 14, 42, 27, 7, 28, 96, 182, 0, 165, 167, 0, 4, 2, 172]
abbrev dktX4_letter_1 : List UInt8 := dkwX4_letter_1 ++ []
def dkwX4_letter_0 : List UInt8 := [42, 27, 182, 0, 223, 154, 0, 5, 2, 172, 42, 182, 0, 209, 28, 133, 9, 42, 27, 6, 182, 0, 165, 4]
abbrev dktX4_letter_0 : List UInt8 := dkwX4_letter_0 ++ dktX4_letter_1
theorem dksX4_letter_0 : cX4_letter.data.toList.drop 0 = dktX4_letter_0 := by decide +kernel
theorem dksX4_letter_1 : cX4_letter.data.toList.drop 24 = dktX4_letter_1 := dk_seg dksX4_letter_0 24 rfl rfl
theorem dX4_letter_0 : decode cX4_letter 0 = .ok (.aload_n 0, 1) := dk_42 (dk_at dksX4_letter_0 0 rfl rfl)
theorem dX4_letter_1 : decode cX4_letter 1 = .ok (.iload_n 1, 1) := dk_27 (dk_at dksX4_letter_0 1 rfl rfl)
theorem dX4_letter_2 : decode cX4_letter 2 = .ok (.invokevirtual 223, 3) := dk_182 0 223 (dk_at dksX4_letter_0 2 rfl rfl)
theorem dX4_letter_5 : decode cX4_letter 5 = .ok (.ifCond .ne 5, 3) := dk_154 0 5 (dk_at dksX4_letter_0 5 rfl rfl)
theorem dX4_letter_8 : decode cX4_letter 8 = .ok (.iconst (-1), 1) := dk_2 (dk_at dksX4_letter_0 8 rfl rfl)
theorem dX4_letter_9 : decode cX4_letter 9 = .ok (.ireturn, 1) := dk_172 (dk_at dksX4_letter_0 9 rfl rfl)
theorem dX4_letter_10 : decode cX4_letter 10 = .ok (.aload_n 0, 1) := dk_42 (dk_at dksX4_letter_0 10 rfl rfl)
theorem dX4_letter_11 : decode cX4_letter 11 = .ok (.invokevirtual 209, 3) := dk_182 0 209 (dk_at dksX4_letter_0 11 rfl rfl)
theorem dX4_letter_14 : decode cX4_letter 14 = .ok (.iload_n 2, 1) := dk_28 (dk_at dksX4_letter_0 14 rfl rfl)
theorem dX4_letter_15 : decode cX4_letter 15 = .ok (.i2l, 1) := dk_133 (dk_at dksX4_letter_0 15 rfl rfl)
theorem dX4_letter_16 : decode cX4_letter 16 = .ok (.lconst 0, 1) := dk_9 (dk_at dksX4_letter_0 16 rfl rfl)
theorem dX4_letter_17 : decode cX4_letter 17 = .ok (.aload_n 0, 1) := dk_42 (dk_at dksX4_letter_0 17 rfl rfl)
theorem dX4_letter_18 : decode cX4_letter 18 = .ok (.iload_n 1, 1) := dk_27 (dk_at dksX4_letter_0 18 rfl rfl)
theorem dX4_letter_19 : decode cX4_letter 19 = .ok (.iconst 3, 1) := dk_6 (dk_at dksX4_letter_0 19 rfl rfl)
theorem dX4_letter_20 : decode cX4_letter 20 = .ok (.invokevirtual 165, 3) := dk_182 0 165 (dk_at dksX4_letter_0 20 rfl rfl)
theorem dX4_letter_23 : decode cX4_letter 23 = .ok (.iconst 1, 1) := dk_4 (dk_at dksX4_letter_0 23 rfl rfl)
theorem dX4_letter_24 : decode cX4_letter 24 = .ok (.isub, 1) := dk_100 (dk_at dksX4_letter_1 0 rfl rfl)
theorem dX4_letter_25 : decode cX4_letter 25 = .ok (.i2l, 1) := dk_133 (dk_at dksX4_letter_1 1 rfl rfl)
theorem dX4_letter_26 : decode cX4_letter 26 = .ok (.invokestatic 80, 3) := dk_184 0 80 (dk_at dksX4_letter_1 2 rfl rfl)
theorem dX4_letter_29 : decode cX4_letter 29 = .ok (.ifCond .eq 14, 3) := dk_153 0 14 (dk_at dksX4_letter_1 5 rfl rfl)
theorem dX4_letter_32 : decode cX4_letter 32 = .ok (.aload_n 0, 1) := dk_42 (dk_at dksX4_letter_1 8 rfl rfl)
theorem dX4_letter_33 : decode cX4_letter 33 = .ok (.iload_n 1, 1) := dk_27 (dk_at dksX4_letter_1 9 rfl rfl)
theorem dX4_letter_34 : decode cX4_letter 34 = .ok (.iconst 4, 1) := dk_7 (dk_at dksX4_letter_1 10 rfl rfl)
theorem dX4_letter_35 : decode cX4_letter 35 = .ok (.iload_n 2, 1) := dk_28 (dk_at dksX4_letter_1 11 rfl rfl)
theorem dX4_letter_36 : decode cX4_letter 36 = .ok (.iadd, 1) := dk_96 (dk_at dksX4_letter_1 12 rfl rfl)
theorem dX4_letter_37 : decode cX4_letter 37 = .ok (.invokevirtual 165, 3) := dk_182 0 165 (dk_at dksX4_letter_1 13 rfl rfl)
theorem dX4_letter_40 : decode cX4_letter 40 = .ok (.goto 4, 3) := dk_167 0 4 (dk_at dksX4_letter_1 16 rfl rfl)
theorem dX4_letter_43 : decode cX4_letter 43 = .ok (.iconst (-1), 1) := dk_2 (dk_at dksX4_letter_1 19 rfl rfl)
theorem dX4_letter_44 : decode cX4_letter 44 = .ok (.ireturn, 1) := dk_172 (dk_at dksX4_letter_1 20 rfl rfl)
abbrev cX4_order : ByteArray := prog_13_method_54_code
def yX4_order : MethodName := ⟨RX4, "order", "(II)I"⟩
def dkwX4_order_5 : List UInt8 := [96, 16, 10, 100, 46, 167, 0, 4, 2, 172]
abbrev dktX4_order_5 : List UInt8 := dkwX4_order_5 ++ []
def dkwX4_order_4 : List UInt8 := [180, 0, 20, 29, 3, 96, 46, 4, 100, 133, 184, 0, 80, 153, 0, 19, 42, 180, 0, 20, 29, 4, 96, 28]
abbrev dktX4_order_4 : List UInt8 := dkwX4_order_4 ++ dktX4_order_5
def dkwX4_order_3 : List UInt8 := [29, 3, 96, 46, 172, 42, 180, 0, 7, 16, 53, 46, 27, 122, 4, 126, 172, 28, 16, 10, 100, 133, 9, 42]
abbrev dktX4_order_3 : List UInt8 := dkwX4_order_3 ++ dktX4_order_4
def dkwX4_order_2 : List UInt8 := [42, 180, 0, 20, 29, 16, 6, 96, 46, 172, 42, 180, 0, 20, 29, 16, 7, 96, 46, 172, 42, 180, 0, 20]
abbrev dktX4_order_2 : List UInt8 := dkwX4_order_2 ++ dktX4_order_3
def dkwX4_order_1 : List UInt8 := [170, 0, 0, 0, 0, 0, 0, 73, 0, 0, 0, 0, 0, 0, 0, 3, 0, 0, 0, 32, 0, 0, 0, 42, 0, 0, 0, 52, 0, 0, 0, 61]
abbrev dktX4_order_1 : List UInt8 := dkwX4_order_1 ++ dktX4_order_2
def dkwX4_order_0 : List UInt8 := [42, 27, 182, 0, 226, 154, 0, 5, 2, 172, 16, 8, 27, 104, 62, 28]
abbrev dktX4_order_0 : List UInt8 := dkwX4_order_0 ++ dktX4_order_1
theorem dksX4_order_0 : cX4_order.data.toList.drop 0 = dktX4_order_0 := by decide +kernel
theorem dksX4_order_1 : cX4_order.data.toList.drop 16 = dktX4_order_1 := dk_seg dksX4_order_0 16 rfl rfl
theorem dksX4_order_2 : cX4_order.data.toList.drop 48 = dktX4_order_2 := dk_seg dksX4_order_1 32 rfl rfl
theorem dksX4_order_3 : cX4_order.data.toList.drop 72 = dktX4_order_3 := dk_seg dksX4_order_2 24 rfl rfl
theorem dksX4_order_4 : cX4_order.data.toList.drop 96 = dktX4_order_4 := dk_seg dksX4_order_3 24 rfl rfl
theorem dksX4_order_5 : cX4_order.data.toList.drop 120 = dktX4_order_5 := dk_seg dksX4_order_4 24 rfl rfl
theorem dX4_order_0 : decode cX4_order 0 = .ok (.aload_n 0, 1) := dk_42 (dk_at dksX4_order_0 0 rfl rfl)
theorem dX4_order_1 : decode cX4_order 1 = .ok (.iload_n 1, 1) := dk_27 (dk_at dksX4_order_0 1 rfl rfl)
theorem dX4_order_2 : decode cX4_order 2 = .ok (.invokevirtual 226, 3) := dk_182 0 226 (dk_at dksX4_order_0 2 rfl rfl)
theorem dX4_order_5 : decode cX4_order 5 = .ok (.ifCond .ne 5, 3) := dk_154 0 5 (dk_at dksX4_order_0 5 rfl rfl)
theorem dX4_order_8 : decode cX4_order 8 = .ok (.iconst (-1), 1) := dk_2 (dk_at dksX4_order_0 8 rfl rfl)
theorem dX4_order_9 : decode cX4_order 9 = .ok (.ireturn, 1) := dk_172 (dk_at dksX4_order_0 9 rfl rfl)
theorem dX4_order_10 : decode cX4_order 10 = .ok (.bipush 8, 2) := dk_16 8 (dk_at dksX4_order_0 10 rfl rfl)
theorem dX4_order_12 : decode cX4_order 12 = .ok (.iload_n 1, 1) := dk_27 (dk_at dksX4_order_0 12 rfl rfl)
theorem dX4_order_13 : decode cX4_order 13 = .ok (.imul, 1) := dk_104 (dk_at dksX4_order_0 13 rfl rfl)
theorem dX4_order_14 : decode cX4_order 14 = .ok (.istore_n 3, 1) := dk_62 (dk_at dksX4_order_0 14 rfl rfl)
theorem dX4_order_15 : decode cX4_order 15 = .ok (.iload_n 2, 1) := dk_28 (dk_at dksX4_order_0 15 rfl rfl)
theorem dX4_order_16 : decode cX4_order 16 = .ok (.tableswitch 73 0 3 #[32, 42, 52, 61], 32) := by decide +kernel
theorem dX4_order_48 : decode cX4_order 48 = .ok (.aload_n 0, 1) := dk_42 (dk_at dksX4_order_2 0 rfl rfl)
theorem dX4_order_49 : decode cX4_order 49 = .ok (.getfield 20, 3) := dk_180 0 20 (dk_at dksX4_order_2 1 rfl rfl)
theorem dX4_order_52 : decode cX4_order 52 = .ok (.iload_n 3, 1) := dk_29 (dk_at dksX4_order_2 4 rfl rfl)
theorem dX4_order_53 : decode cX4_order 53 = .ok (.bipush 6, 2) := dk_16 6 (dk_at dksX4_order_2 5 rfl rfl)
theorem dX4_order_55 : decode cX4_order 55 = .ok (.iadd, 1) := dk_96 (dk_at dksX4_order_2 7 rfl rfl)
theorem dX4_order_56 : decode cX4_order 56 = .ok (.iaload, 1) := dk_46 (dk_at dksX4_order_2 8 rfl rfl)
theorem dX4_order_57 : decode cX4_order 57 = .ok (.ireturn, 1) := dk_172 (dk_at dksX4_order_2 9 rfl rfl)
theorem dX4_order_58 : decode cX4_order 58 = .ok (.aload_n 0, 1) := dk_42 (dk_at dksX4_order_2 10 rfl rfl)
theorem dX4_order_59 : decode cX4_order 59 = .ok (.getfield 20, 3) := dk_180 0 20 (dk_at dksX4_order_2 11 rfl rfl)
theorem dX4_order_62 : decode cX4_order 62 = .ok (.iload_n 3, 1) := dk_29 (dk_at dksX4_order_2 14 rfl rfl)
theorem dX4_order_63 : decode cX4_order 63 = .ok (.bipush 7, 2) := dk_16 7 (dk_at dksX4_order_2 15 rfl rfl)
theorem dX4_order_65 : decode cX4_order 65 = .ok (.iadd, 1) := dk_96 (dk_at dksX4_order_2 17 rfl rfl)
theorem dX4_order_66 : decode cX4_order 66 = .ok (.iaload, 1) := dk_46 (dk_at dksX4_order_2 18 rfl rfl)
theorem dX4_order_67 : decode cX4_order 67 = .ok (.ireturn, 1) := dk_172 (dk_at dksX4_order_2 19 rfl rfl)
theorem dX4_order_68 : decode cX4_order 68 = .ok (.aload_n 0, 1) := dk_42 (dk_at dksX4_order_2 20 rfl rfl)
theorem dX4_order_69 : decode cX4_order 69 = .ok (.getfield 20, 3) := dk_180 0 20 (dk_at dksX4_order_2 21 rfl rfl)
theorem dX4_order_72 : decode cX4_order 72 = .ok (.iload_n 3, 1) := dk_29 (dk_at dksX4_order_3 0 rfl rfl)
theorem dX4_order_73 : decode cX4_order 73 = .ok (.iconst 0, 1) := dk_3 (dk_at dksX4_order_3 1 rfl rfl)
theorem dX4_order_74 : decode cX4_order 74 = .ok (.iadd, 1) := dk_96 (dk_at dksX4_order_3 2 rfl rfl)
theorem dX4_order_75 : decode cX4_order 75 = .ok (.iaload, 1) := dk_46 (dk_at dksX4_order_3 3 rfl rfl)
theorem dX4_order_76 : decode cX4_order 76 = .ok (.ireturn, 1) := dk_172 (dk_at dksX4_order_3 4 rfl rfl)
theorem dX4_order_77 : decode cX4_order 77 = .ok (.aload_n 0, 1) := dk_42 (dk_at dksX4_order_3 5 rfl rfl)
theorem dX4_order_78 : decode cX4_order 78 = .ok (.getfield 7, 3) := dk_180 0 7 (dk_at dksX4_order_3 6 rfl rfl)
theorem dX4_order_81 : decode cX4_order 81 = .ok (.bipush 53, 2) := dk_16 53 (dk_at dksX4_order_3 9 rfl rfl)
theorem dX4_order_83 : decode cX4_order 83 = .ok (.iaload, 1) := dk_46 (dk_at dksX4_order_3 11 rfl rfl)
theorem dX4_order_84 : decode cX4_order 84 = .ok (.iload_n 1, 1) := dk_27 (dk_at dksX4_order_3 12 rfl rfl)
theorem dX4_order_85 : decode cX4_order 85 = .ok (.ishr, 1) := dk_122 (dk_at dksX4_order_3 13 rfl rfl)
theorem dX4_order_86 : decode cX4_order 86 = .ok (.iconst 1, 1) := dk_4 (dk_at dksX4_order_3 14 rfl rfl)
theorem dX4_order_87 : decode cX4_order 87 = .ok (.iand, 1) := dk_126 (dk_at dksX4_order_3 15 rfl rfl)
theorem dX4_order_88 : decode cX4_order 88 = .ok (.ireturn, 1) := dk_172 (dk_at dksX4_order_3 16 rfl rfl)
theorem dX4_order_89 : decode cX4_order 89 = .ok (.iload_n 2, 1) := dk_28 (dk_at dksX4_order_3 17 rfl rfl)
theorem dX4_order_90 : decode cX4_order 90 = .ok (.bipush 10, 2) := dk_16 10 (dk_at dksX4_order_3 18 rfl rfl)
theorem dX4_order_92 : decode cX4_order 92 = .ok (.isub, 1) := dk_100 (dk_at dksX4_order_3 20 rfl rfl)
theorem dX4_order_93 : decode cX4_order 93 = .ok (.i2l, 1) := dk_133 (dk_at dksX4_order_3 21 rfl rfl)
theorem dX4_order_94 : decode cX4_order 94 = .ok (.lconst 0, 1) := dk_9 (dk_at dksX4_order_3 22 rfl rfl)
theorem dX4_order_95 : decode cX4_order 95 = .ok (.aload_n 0, 1) := dk_42 (dk_at dksX4_order_3 23 rfl rfl)
theorem dX4_order_96 : decode cX4_order 96 = .ok (.getfield 20, 3) := dk_180 0 20 (dk_at dksX4_order_4 0 rfl rfl)
theorem dX4_order_99 : decode cX4_order 99 = .ok (.iload_n 3, 1) := dk_29 (dk_at dksX4_order_4 3 rfl rfl)
theorem dX4_order_100 : decode cX4_order 100 = .ok (.iconst 0, 1) := dk_3 (dk_at dksX4_order_4 4 rfl rfl)
theorem dX4_order_101 : decode cX4_order 101 = .ok (.iadd, 1) := dk_96 (dk_at dksX4_order_4 5 rfl rfl)
theorem dX4_order_102 : decode cX4_order 102 = .ok (.iaload, 1) := dk_46 (dk_at dksX4_order_4 6 rfl rfl)
theorem dX4_order_103 : decode cX4_order 103 = .ok (.iconst 1, 1) := dk_4 (dk_at dksX4_order_4 7 rfl rfl)
theorem dX4_order_104 : decode cX4_order 104 = .ok (.isub, 1) := dk_100 (dk_at dksX4_order_4 8 rfl rfl)
theorem dX4_order_105 : decode cX4_order 105 = .ok (.i2l, 1) := dk_133 (dk_at dksX4_order_4 9 rfl rfl)
theorem dX4_order_106 : decode cX4_order 106 = .ok (.invokestatic 80, 3) := dk_184 0 80 (dk_at dksX4_order_4 10 rfl rfl)
theorem dX4_order_109 : decode cX4_order 109 = .ok (.ifCond .eq 19, 3) := dk_153 0 19 (dk_at dksX4_order_4 13 rfl rfl)
theorem dX4_order_112 : decode cX4_order 112 = .ok (.aload_n 0, 1) := dk_42 (dk_at dksX4_order_4 16 rfl rfl)
theorem dX4_order_113 : decode cX4_order 113 = .ok (.getfield 20, 3) := dk_180 0 20 (dk_at dksX4_order_4 17 rfl rfl)
theorem dX4_order_116 : decode cX4_order 116 = .ok (.iload_n 3, 1) := dk_29 (dk_at dksX4_order_4 20 rfl rfl)
theorem dX4_order_117 : decode cX4_order 117 = .ok (.iconst 1, 1) := dk_4 (dk_at dksX4_order_4 21 rfl rfl)
theorem dX4_order_118 : decode cX4_order 118 = .ok (.iadd, 1) := dk_96 (dk_at dksX4_order_4 22 rfl rfl)
theorem dX4_order_119 : decode cX4_order 119 = .ok (.iload_n 2, 1) := dk_28 (dk_at dksX4_order_4 23 rfl rfl)
theorem dX4_order_120 : decode cX4_order 120 = .ok (.iadd, 1) := dk_96 (dk_at dksX4_order_5 0 rfl rfl)
theorem dX4_order_121 : decode cX4_order 121 = .ok (.bipush 10, 2) := dk_16 10 (dk_at dksX4_order_5 1 rfl rfl)
theorem dX4_order_123 : decode cX4_order 123 = .ok (.isub, 1) := dk_100 (dk_at dksX4_order_5 3 rfl rfl)
theorem dX4_order_124 : decode cX4_order 124 = .ok (.iaload, 1) := dk_46 (dk_at dksX4_order_5 4 rfl rfl)
theorem dX4_order_125 : decode cX4_order 125 = .ok (.goto 4, 3) := dk_167 0 4 (dk_at dksX4_order_5 5 rfl rfl)
theorem dX4_order_128 : decode cX4_order 128 = .ok (.iconst (-1), 1) := dk_2 (dk_at dksX4_order_5 8 rfl rfl)
theorem dX4_order_129 : decode cX4_order 129 = .ok (.ireturn, 1) := dk_172 (dk_at dksX4_order_5 9 rfl rfl)
abbrev cX4_isOrder : ByteArray := prog_13_method_26_code
def yX4_isOrder : MethodName := ⟨RX4, "isOrder", "(I)Z"⟩
def dkwX4_isOrder_0 : List UInt8 := [27, 133, 9, 42, 180, 0, 75, 4, 100, 133, 184, 0, 80, 172]
abbrev dktX4_isOrder_0 : List UInt8 := dkwX4_isOrder_0 ++ []
theorem dksX4_isOrder_0 : cX4_isOrder.data.toList.drop 0 = dktX4_isOrder_0 := by decide +kernel
theorem dX4_isOrder_0 : decode cX4_isOrder 0 = .ok (.iload_n 1, 1) := dk_27 (dk_at dksX4_isOrder_0 0 rfl rfl)
theorem dX4_isOrder_1 : decode cX4_isOrder 1 = .ok (.i2l, 1) := dk_133 (dk_at dksX4_isOrder_0 1 rfl rfl)
theorem dX4_isOrder_2 : decode cX4_isOrder 2 = .ok (.lconst 0, 1) := dk_9 (dk_at dksX4_isOrder_0 2 rfl rfl)
theorem dX4_isOrder_3 : decode cX4_isOrder 3 = .ok (.aload_n 0, 1) := dk_42 (dk_at dksX4_isOrder_0 3 rfl rfl)
theorem dX4_isOrder_4 : decode cX4_isOrder 4 = .ok (.getfield 75, 3) := dk_180 0 75 (dk_at dksX4_isOrder_0 4 rfl rfl)
theorem dX4_isOrder_7 : decode cX4_isOrder 7 = .ok (.iconst 1, 1) := dk_4 (dk_at dksX4_isOrder_0 7 rfl rfl)
theorem dX4_isOrder_8 : decode cX4_isOrder 8 = .ok (.isub, 1) := dk_100 (dk_at dksX4_isOrder_0 8 rfl rfl)
theorem dX4_isOrder_9 : decode cX4_isOrder 9 = .ok (.i2l, 1) := dk_133 (dk_at dksX4_isOrder_0 9 rfl rfl)
theorem dX4_isOrder_10 : decode cX4_isOrder 10 = .ok (.invokestatic 80, 3) := dk_184 0 80 (dk_at dksX4_isOrder_0 10 rfl rfl)
theorem dX4_isOrder_13 : decode cX4_isOrder 13 = .ok (.ireturn, 1) := dk_172 (dk_at dksX4_isOrder_0 13 rfl rfl)
abbrev cX4_drive : ByteArray := prog_13_method_56_code
def yX4_drive : MethodName := ⟨RX4, "drive", "(II)I"⟩
def dkwX4_drive_3 : List UInt8 := [182, 0, 232, 172]
abbrev dktX4_drive_3 : List UInt8 := dkwX4_drive_3 ++ []
def dkwX4_drive_2 : List UInt8 := [184, 0, 229, 6, 160, 0, 8, 16, 253, 167, 0, 17, 42, 16, 8, 16, 9, 27, 104, 96, 5, 96, 28]
abbrev dktX4_drive_2 : List UInt8 := dkwX4_drive_2 ++ dktX4_drive_3
def dkwX4_drive_1 : List UInt8 := [5, 182, 0, 165, 28, 159, 0, 11, 42, 27, 182, 0, 168, 153, 0, 6, 16, 254, 172, 42, 28, 182, 0, 212]
abbrev dktX4_drive_1 : List UInt8 := dkwX4_drive_1 ++ dktX4_drive_2
def dkwX4_drive_0 : List UInt8 := [42, 27, 182, 0, 223, 153, 0, 11, 42, 28, 182, 0, 218, 154, 0, 5, 2, 172, 42, 182, 0, 209, 42, 27]
abbrev dktX4_drive_0 : List UInt8 := dkwX4_drive_0 ++ dktX4_drive_1
theorem dksX4_drive_0 : cX4_drive.data.toList.drop 0 = dktX4_drive_0 := by decide +kernel
theorem dksX4_drive_1 : cX4_drive.data.toList.drop 24 = dktX4_drive_1 := dk_seg dksX4_drive_0 24 rfl rfl
theorem dksX4_drive_2 : cX4_drive.data.toList.drop 48 = dktX4_drive_2 := dk_seg dksX4_drive_1 24 rfl rfl
theorem dksX4_drive_3 : cX4_drive.data.toList.drop 71 = dktX4_drive_3 := dk_seg dksX4_drive_2 23 rfl rfl
theorem dX4_drive_0 : decode cX4_drive 0 = .ok (.aload_n 0, 1) := dk_42 (dk_at dksX4_drive_0 0 rfl rfl)
theorem dX4_drive_1 : decode cX4_drive 1 = .ok (.iload_n 1, 1) := dk_27 (dk_at dksX4_drive_0 1 rfl rfl)
theorem dX4_drive_2 : decode cX4_drive 2 = .ok (.invokevirtual 223, 3) := dk_182 0 223 (dk_at dksX4_drive_0 2 rfl rfl)
theorem dX4_drive_5 : decode cX4_drive 5 = .ok (.ifCond .eq 11, 3) := dk_153 0 11 (dk_at dksX4_drive_0 5 rfl rfl)
theorem dX4_drive_8 : decode cX4_drive 8 = .ok (.aload_n 0, 1) := dk_42 (dk_at dksX4_drive_0 8 rfl rfl)
theorem dX4_drive_9 : decode cX4_drive 9 = .ok (.iload_n 2, 1) := dk_28 (dk_at dksX4_drive_0 9 rfl rfl)
theorem dX4_drive_10 : decode cX4_drive 10 = .ok (.invokevirtual 218, 3) := dk_182 0 218 (dk_at dksX4_drive_0 10 rfl rfl)
theorem dX4_drive_13 : decode cX4_drive 13 = .ok (.ifCond .ne 5, 3) := dk_154 0 5 (dk_at dksX4_drive_0 13 rfl rfl)
theorem dX4_drive_16 : decode cX4_drive 16 = .ok (.iconst (-1), 1) := dk_2 (dk_at dksX4_drive_0 16 rfl rfl)
theorem dX4_drive_17 : decode cX4_drive 17 = .ok (.ireturn, 1) := dk_172 (dk_at dksX4_drive_0 17 rfl rfl)
theorem dX4_drive_18 : decode cX4_drive 18 = .ok (.aload_n 0, 1) := dk_42 (dk_at dksX4_drive_0 18 rfl rfl)
theorem dX4_drive_19 : decode cX4_drive 19 = .ok (.invokevirtual 209, 3) := dk_182 0 209 (dk_at dksX4_drive_0 19 rfl rfl)
theorem dX4_drive_22 : decode cX4_drive 22 = .ok (.aload_n 0, 1) := dk_42 (dk_at dksX4_drive_0 22 rfl rfl)
theorem dX4_drive_23 : decode cX4_drive 23 = .ok (.iload_n 1, 1) := dk_27 (dk_at dksX4_drive_0 23 rfl rfl)
theorem dX4_drive_24 : decode cX4_drive 24 = .ok (.iconst 2, 1) := dk_5 (dk_at dksX4_drive_1 0 rfl rfl)
theorem dX4_drive_25 : decode cX4_drive 25 = .ok (.invokevirtual 165, 3) := dk_182 0 165 (dk_at dksX4_drive_1 1 rfl rfl)
theorem dX4_drive_28 : decode cX4_drive 28 = .ok (.iload_n 2, 1) := dk_28 (dk_at dksX4_drive_1 4 rfl rfl)
theorem dX4_drive_29 : decode cX4_drive 29 = .ok (.if_icmp .eq 11, 3) := dk_159 0 11 (dk_at dksX4_drive_1 5 rfl rfl)
theorem dX4_drive_32 : decode cX4_drive 32 = .ok (.aload_n 0, 1) := dk_42 (dk_at dksX4_drive_1 8 rfl rfl)
theorem dX4_drive_33 : decode cX4_drive 33 = .ok (.iload_n 1, 1) := dk_27 (dk_at dksX4_drive_1 9 rfl rfl)
theorem dX4_drive_34 : decode cX4_drive 34 = .ok (.invokevirtual 168, 3) := dk_182 0 168 (dk_at dksX4_drive_1 10 rfl rfl)
theorem dX4_drive_37 : decode cX4_drive 37 = .ok (.ifCond .eq 6, 3) := dk_153 0 6 (dk_at dksX4_drive_1 13 rfl rfl)
theorem dX4_drive_40 : decode cX4_drive 40 = .ok (.bipush (-2), 2) := dk_16 254 (dk_at dksX4_drive_1 16 rfl rfl)
theorem dX4_drive_42 : decode cX4_drive 42 = .ok (.ireturn, 1) := dk_172 (dk_at dksX4_drive_1 18 rfl rfl)
theorem dX4_drive_43 : decode cX4_drive 43 = .ok (.aload_n 0, 1) := dk_42 (dk_at dksX4_drive_1 19 rfl rfl)
theorem dX4_drive_44 : decode cX4_drive 44 = .ok (.iload_n 2, 1) := dk_28 (dk_at dksX4_drive_1 20 rfl rfl)
theorem dX4_drive_45 : decode cX4_drive 45 = .ok (.invokevirtual 212, 3) := dk_182 0 212 (dk_at dksX4_drive_1 21 rfl rfl)
theorem dX4_drive_48 : decode cX4_drive 48 = .ok (.invokestatic 229, 3) := dk_184 0 229 (dk_at dksX4_drive_2 0 rfl rfl)
theorem dX4_drive_51 : decode cX4_drive 51 = .ok (.iconst 3, 1) := dk_6 (dk_at dksX4_drive_2 3 rfl rfl)
theorem dX4_drive_52 : decode cX4_drive 52 = .ok (.if_icmp .ne 8, 3) := dk_160 0 8 (dk_at dksX4_drive_2 4 rfl rfl)
theorem dX4_drive_55 : decode cX4_drive 55 = .ok (.bipush (-3), 2) := dk_16 253 (dk_at dksX4_drive_2 7 rfl rfl)
theorem dX4_drive_57 : decode cX4_drive 57 = .ok (.goto 17, 3) := dk_167 0 17 (dk_at dksX4_drive_2 9 rfl rfl)
theorem dX4_drive_60 : decode cX4_drive 60 = .ok (.aload_n 0, 1) := dk_42 (dk_at dksX4_drive_2 12 rfl rfl)
theorem dX4_drive_61 : decode cX4_drive 61 = .ok (.bipush 8, 2) := dk_16 8 (dk_at dksX4_drive_2 13 rfl rfl)
theorem dX4_drive_63 : decode cX4_drive 63 = .ok (.bipush 9, 2) := dk_16 9 (dk_at dksX4_drive_2 15 rfl rfl)
theorem dX4_drive_65 : decode cX4_drive 65 = .ok (.iload_n 1, 1) := dk_27 (dk_at dksX4_drive_2 17 rfl rfl)
theorem dX4_drive_66 : decode cX4_drive 66 = .ok (.imul, 1) := dk_104 (dk_at dksX4_drive_2 18 rfl rfl)
theorem dX4_drive_67 : decode cX4_drive 67 = .ok (.iadd, 1) := dk_96 (dk_at dksX4_drive_2 19 rfl rfl)
theorem dX4_drive_68 : decode cX4_drive 68 = .ok (.iconst 2, 1) := dk_5 (dk_at dksX4_drive_2 20 rfl rfl)
theorem dX4_drive_69 : decode cX4_drive 69 = .ok (.iadd, 1) := dk_96 (dk_at dksX4_drive_2 21 rfl rfl)
theorem dX4_drive_70 : decode cX4_drive 70 = .ok (.iload_n 2, 1) := dk_28 (dk_at dksX4_drive_2 22 rfl rfl)
theorem dX4_drive_71 : decode cX4_drive 71 = .ok (.invokevirtual 232, 3) := dk_182 0 232 (dk_at dksX4_drive_3 0 rfl rfl)
theorem dX4_drive_74 : decode cX4_drive 74 = .ok (.ireturn, 1) := dk_172 (dk_at dksX4_drive_3 3 rfl rfl)
abbrev cX4_bitsOf : ByteArray := prog_13_method_40_code
def yX4_bitsOf : MethodName := ⟨RX4, "bitsOf", "(I)I"⟩
def dkwX4_bitsOf_1 : List UInt8 := [172]
abbrev dktX4_bitsOf_1 : List UInt8 := dkwX4_bitsOf_1 ++ []
def dkwX4_bitsOf_0 : List UInt8 := [3, 60, 3, 61, 28, 8, 162, 0, 17, 27, 26, 28, 122, 4, 126, 96, 60, 132, 2, 1, 167, 255, 240, 27]
abbrev dktX4_bitsOf_0 : List UInt8 := dkwX4_bitsOf_0 ++ dktX4_bitsOf_1
theorem dksX4_bitsOf_0 : cX4_bitsOf.data.toList.drop 0 = dktX4_bitsOf_0 := by decide +kernel
theorem dksX4_bitsOf_1 : cX4_bitsOf.data.toList.drop 24 = dktX4_bitsOf_1 := dk_seg dksX4_bitsOf_0 24 rfl rfl
theorem dX4_bitsOf_0 : decode cX4_bitsOf 0 = .ok (.iconst 0, 1) := dk_3 (dk_at dksX4_bitsOf_0 0 rfl rfl)
theorem dX4_bitsOf_1 : decode cX4_bitsOf 1 = .ok (.istore_n 1, 1) := dk_60 (dk_at dksX4_bitsOf_0 1 rfl rfl)
theorem dX4_bitsOf_2 : decode cX4_bitsOf 2 = .ok (.iconst 0, 1) := dk_3 (dk_at dksX4_bitsOf_0 2 rfl rfl)
theorem dX4_bitsOf_3 : decode cX4_bitsOf 3 = .ok (.istore_n 2, 1) := dk_61 (dk_at dksX4_bitsOf_0 3 rfl rfl)
theorem dX4_bitsOf_4 : decode cX4_bitsOf 4 = .ok (.iload_n 2, 1) := dk_28 (dk_at dksX4_bitsOf_0 4 rfl rfl)
theorem dX4_bitsOf_5 : decode cX4_bitsOf 5 = .ok (.iconst 5, 1) := dk_8 (dk_at dksX4_bitsOf_0 5 rfl rfl)
theorem dX4_bitsOf_6 : decode cX4_bitsOf 6 = .ok (.if_icmp .ge 17, 3) := dk_162 0 17 (dk_at dksX4_bitsOf_0 6 rfl rfl)
theorem dX4_bitsOf_9 : decode cX4_bitsOf 9 = .ok (.iload_n 1, 1) := dk_27 (dk_at dksX4_bitsOf_0 9 rfl rfl)
theorem dX4_bitsOf_10 : decode cX4_bitsOf 10 = .ok (.iload_n 0, 1) := dk_26 (dk_at dksX4_bitsOf_0 10 rfl rfl)
theorem dX4_bitsOf_11 : decode cX4_bitsOf 11 = .ok (.iload_n 2, 1) := dk_28 (dk_at dksX4_bitsOf_0 11 rfl rfl)
theorem dX4_bitsOf_12 : decode cX4_bitsOf 12 = .ok (.ishr, 1) := dk_122 (dk_at dksX4_bitsOf_0 12 rfl rfl)
theorem dX4_bitsOf_13 : decode cX4_bitsOf 13 = .ok (.iconst 1, 1) := dk_4 (dk_at dksX4_bitsOf_0 13 rfl rfl)
theorem dX4_bitsOf_14 : decode cX4_bitsOf 14 = .ok (.iand, 1) := dk_126 (dk_at dksX4_bitsOf_0 14 rfl rfl)
theorem dX4_bitsOf_15 : decode cX4_bitsOf 15 = .ok (.iadd, 1) := dk_96 (dk_at dksX4_bitsOf_0 15 rfl rfl)
theorem dX4_bitsOf_16 : decode cX4_bitsOf 16 = .ok (.istore_n 1, 1) := dk_60 (dk_at dksX4_bitsOf_0 16 rfl rfl)
theorem dX4_bitsOf_17 : decode cX4_bitsOf 17 = .ok (.iinc 2 1, 3) := dk_132 2 1 (dk_at dksX4_bitsOf_0 17 rfl rfl)
theorem dX4_bitsOf_20 : decode cX4_bitsOf 20 = .ok (.goto (-16), 3) := dk_167 255 240 (dk_at dksX4_bitsOf_0 20 rfl rfl)
theorem dX4_bitsOf_23 : decode cX4_bitsOf 23 = .ok (.iload_n 1, 1) := dk_27 (dk_at dksX4_bitsOf_0 23 rfl rfl)
theorem dX4_bitsOf_24 : decode cX4_bitsOf 24 = .ok (.ireturn, 1) := dk_172 (dk_at dksX4_bitsOf_1 0 rfl rfl)
abbrev cX4_becomes : ByteArray := prog_13_method_55_code
def yX4_becomes : MethodName := ⟨RX4, "becomes", "(II)I"⟩
def dkwX4_becomes_0 : List UInt8 := [42, 180, 0, 7, 27, 46, 62, 42, 180, 0, 7, 27, 28, 79, 29, 172]
abbrev dktX4_becomes_0 : List UInt8 := dkwX4_becomes_0 ++ []
theorem dksX4_becomes_0 : cX4_becomes.data.toList.drop 0 = dktX4_becomes_0 := by decide +kernel
theorem dX4_becomes_0 : decode cX4_becomes 0 = .ok (.aload_n 0, 1) := dk_42 (dk_at dksX4_becomes_0 0 rfl rfl)
theorem dX4_becomes_1 : decode cX4_becomes 1 = .ok (.getfield 7, 3) := dk_180 0 7 (dk_at dksX4_becomes_0 1 rfl rfl)
theorem dX4_becomes_4 : decode cX4_becomes 4 = .ok (.iload_n 1, 1) := dk_27 (dk_at dksX4_becomes_0 4 rfl rfl)
theorem dX4_becomes_5 : decode cX4_becomes 5 = .ok (.iaload, 1) := dk_46 (dk_at dksX4_becomes_0 5 rfl rfl)
theorem dX4_becomes_6 : decode cX4_becomes 6 = .ok (.istore_n 3, 1) := dk_62 (dk_at dksX4_becomes_0 6 rfl rfl)
theorem dX4_becomes_7 : decode cX4_becomes 7 = .ok (.aload_n 0, 1) := dk_42 (dk_at dksX4_becomes_0 7 rfl rfl)
theorem dX4_becomes_8 : decode cX4_becomes 8 = .ok (.getfield 7, 3) := dk_180 0 7 (dk_at dksX4_becomes_0 8 rfl rfl)
theorem dX4_becomes_11 : decode cX4_becomes 11 = .ok (.iload_n 1, 1) := dk_27 (dk_at dksX4_becomes_0 11 rfl rfl)
theorem dX4_becomes_12 : decode cX4_becomes 12 = .ok (.iload_n 2, 1) := dk_28 (dk_at dksX4_becomes_0 12 rfl rfl)
theorem dX4_becomes_13 : decode cX4_becomes 13 = .ok (.iastore, 1) := dk_79 (dk_at dksX4_becomes_0 13 rfl rfl)
theorem dX4_becomes_14 : decode cX4_becomes 14 = .ok (.iload_n 3, 1) := dk_29 (dk_at dksX4_becomes_0 14 rfl rfl)
theorem dX4_becomes_15 : decode cX4_becomes 15 = .ok (.ireturn, 1) := dk_172 (dk_at dksX4_becomes_0 15 rfl rfl)
abbrev cX4_fence : ByteArray := prog_13_method_57_code
def yX4_fence : MethodName := ⟨RX4, "fence", "(III)I"⟩
def dkwX4_fence_2 : List UInt8 := [172, 42, 5, 27, 104, 28, 96, 29, 182, 0, 232, 172]
abbrev dktX4_fence_2 : List UInt8 := dkwX4_fence_2 ++ []
def dkwX4_fence_1 : List UInt8 := [167, 0, 4, 9, 28, 154, 0, 9, 20, 0, 238, 167, 0, 6, 20, 0, 240, 184, 0, 80, 154, 0, 5, 2]
abbrev dktX4_fence_1 : List UInt8 := dkwX4_fence_1 ++ dktX4_fence_2
def dkwX4_fence_0 : List UInt8 := [42, 27, 182, 0, 218, 153, 0, 40, 28, 184, 0, 235, 153, 0, 33, 29, 133, 28, 154, 0, 7, 10]
abbrev dktX4_fence_0 : List UInt8 := dkwX4_fence_0 ++ dktX4_fence_1
theorem dksX4_fence_0 : cX4_fence.data.toList.drop 0 = dktX4_fence_0 := by decide +kernel
theorem dksX4_fence_1 : cX4_fence.data.toList.drop 22 = dktX4_fence_1 := dk_seg dksX4_fence_0 22 rfl rfl
theorem dksX4_fence_2 : cX4_fence.data.toList.drop 46 = dktX4_fence_2 := dk_seg dksX4_fence_1 24 rfl rfl
theorem dX4_fence_0 : decode cX4_fence 0 = .ok (.aload_n 0, 1) := dk_42 (dk_at dksX4_fence_0 0 rfl rfl)
theorem dX4_fence_1 : decode cX4_fence 1 = .ok (.iload_n 1, 1) := dk_27 (dk_at dksX4_fence_0 1 rfl rfl)
theorem dX4_fence_2 : decode cX4_fence 2 = .ok (.invokevirtual 218, 3) := dk_182 0 218 (dk_at dksX4_fence_0 2 rfl rfl)
theorem dX4_fence_5 : decode cX4_fence 5 = .ok (.ifCond .eq 40, 3) := dk_153 0 40 (dk_at dksX4_fence_0 5 rfl rfl)
theorem dX4_fence_8 : decode cX4_fence 8 = .ok (.iload_n 2, 1) := dk_28 (dk_at dksX4_fence_0 8 rfl rfl)
theorem dX4_fence_9 : decode cX4_fence 9 = .ok (.invokestatic 235, 3) := dk_184 0 235 (dk_at dksX4_fence_0 9 rfl rfl)
theorem dX4_fence_12 : decode cX4_fence 12 = .ok (.ifCond .eq 33, 3) := dk_153 0 33 (dk_at dksX4_fence_0 12 rfl rfl)
theorem dX4_fence_15 : decode cX4_fence 15 = .ok (.iload_n 3, 1) := dk_29 (dk_at dksX4_fence_0 15 rfl rfl)
theorem dX4_fence_16 : decode cX4_fence 16 = .ok (.i2l, 1) := dk_133 (dk_at dksX4_fence_0 16 rfl rfl)
theorem dX4_fence_17 : decode cX4_fence 17 = .ok (.iload_n 2, 1) := dk_28 (dk_at dksX4_fence_0 17 rfl rfl)
theorem dX4_fence_18 : decode cX4_fence 18 = .ok (.ifCond .ne 7, 3) := dk_154 0 7 (dk_at dksX4_fence_0 18 rfl rfl)
theorem dX4_fence_21 : decode cX4_fence 21 = .ok (.lconst 1, 1) := dk_10 (dk_at dksX4_fence_0 21 rfl rfl)
theorem dX4_fence_22 : decode cX4_fence 22 = .ok (.goto 4, 3) := dk_167 0 4 (dk_at dksX4_fence_1 0 rfl rfl)
theorem dX4_fence_25 : decode cX4_fence 25 = .ok (.lconst 0, 1) := dk_9 (dk_at dksX4_fence_1 3 rfl rfl)
theorem dX4_fence_26 : decode cX4_fence 26 = .ok (.iload_n 2, 1) := dk_28 (dk_at dksX4_fence_1 4 rfl rfl)
theorem dX4_fence_27 : decode cX4_fence 27 = .ok (.ifCond .ne 9, 3) := dk_154 0 9 (dk_at dksX4_fence_1 5 rfl rfl)
theorem dX4_fence_30 : decode cX4_fence 30 = .ok (.ldc2_w 238, 3) := dk_20 0 238 (dk_at dksX4_fence_1 8 rfl rfl)
theorem dX4_fence_33 : decode cX4_fence 33 = .ok (.goto 6, 3) := dk_167 0 6 (dk_at dksX4_fence_1 11 rfl rfl)
theorem dX4_fence_36 : decode cX4_fence 36 = .ok (.ldc2_w 240, 3) := dk_20 0 240 (dk_at dksX4_fence_1 14 rfl rfl)
theorem dX4_fence_39 : decode cX4_fence 39 = .ok (.invokestatic 80, 3) := dk_184 0 80 (dk_at dksX4_fence_1 17 rfl rfl)
theorem dX4_fence_42 : decode cX4_fence 42 = .ok (.ifCond .ne 5, 3) := dk_154 0 5 (dk_at dksX4_fence_1 20 rfl rfl)
theorem dX4_fence_45 : decode cX4_fence 45 = .ok (.iconst (-1), 1) := dk_2 (dk_at dksX4_fence_1 23 rfl rfl)
theorem dX4_fence_46 : decode cX4_fence 46 = .ok (.ireturn, 1) := dk_172 (dk_at dksX4_fence_2 0 rfl rfl)
theorem dX4_fence_47 : decode cX4_fence 47 = .ok (.aload_n 0, 1) := dk_42 (dk_at dksX4_fence_2 1 rfl rfl)
theorem dX4_fence_48 : decode cX4_fence 48 = .ok (.iconst 2, 1) := dk_5 (dk_at dksX4_fence_2 2 rfl rfl)
theorem dX4_fence_49 : decode cX4_fence 49 = .ok (.iload_n 1, 1) := dk_27 (dk_at dksX4_fence_2 3 rfl rfl)
theorem dX4_fence_50 : decode cX4_fence 50 = .ok (.imul, 1) := dk_104 (dk_at dksX4_fence_2 4 rfl rfl)
theorem dX4_fence_51 : decode cX4_fence 51 = .ok (.iload_n 2, 1) := dk_28 (dk_at dksX4_fence_2 5 rfl rfl)
theorem dX4_fence_52 : decode cX4_fence 52 = .ok (.iadd, 1) := dk_96 (dk_at dksX4_fence_2 6 rfl rfl)
theorem dX4_fence_53 : decode cX4_fence 53 = .ok (.iload_n 3, 1) := dk_29 (dk_at dksX4_fence_2 7 rfl rfl)
theorem dX4_fence_54 : decode cX4_fence 54 = .ok (.invokevirtual 232, 3) := dk_182 0 232 (dk_at dksX4_fence_2 8 rfl rfl)
theorem dX4_fence_57 : decode cX4_fence 57 = .ok (.ireturn, 1) := dk_172 (dk_at dksX4_fence_2 11 rfl rfl)
abbrev cX4_isPart : ByteArray := prog_13_method_27_code
def yX4_isPart : MethodName := ⟨RX4, "isPart", "(I)Z"⟩
def dkwX4_isPart_0 : List UInt8 := [26, 133, 9, 10, 184, 0, 80, 172]
abbrev dktX4_isPart_0 : List UInt8 := dkwX4_isPart_0 ++ []
theorem dksX4_isPart_0 : cX4_isPart.data.toList.drop 0 = dktX4_isPart_0 := by decide +kernel
theorem dX4_isPart_0 : decode cX4_isPart 0 = .ok (.iload_n 0, 1) := dk_26 (dk_at dksX4_isPart_0 0 rfl rfl)
theorem dX4_isPart_1 : decode cX4_isPart 1 = .ok (.i2l, 1) := dk_133 (dk_at dksX4_isPart_0 1 rfl rfl)
theorem dX4_isPart_2 : decode cX4_isPart 2 = .ok (.lconst 0, 1) := dk_9 (dk_at dksX4_isPart_0 2 rfl rfl)
theorem dX4_isPart_3 : decode cX4_isPart 3 = .ok (.lconst 1, 1) := dk_10 (dk_at dksX4_isPart_0 3 rfl rfl)
theorem dX4_isPart_4 : decode cX4_isPart 4 = .ok (.invokestatic 80, 3) := dk_184 0 80 (dk_at dksX4_isPart_0 4 rfl rfl)
theorem dX4_isPart_7 : decode cX4_isPart 7 = .ok (.ireturn, 1) := dk_172 (dk_at dksX4_isPart_0 7 rfl rfl)
abbrev cX4_raise : ByteArray := prog_13_method_58_code
def yX4_raise : MethodName := ⟨RX4, "raise", "(III)I"⟩
def dkwX4_raise_2 : List UInt8 := [96, 28, 154, 0, 7, 4, 167, 0, 4, 3, 96, 29, 182, 0, 232, 172]
abbrev dktX4_raise_2 : List UInt8 := dkwX4_raise_2 ++ []
def dkwX4_raise_1 : List UInt8 := [20, 0, 242, 167, 0, 6, 20, 0, 244, 184, 0, 80, 154, 0, 5, 2, 172, 42, 16, 8, 16, 9, 27, 104]
abbrev dktX4_raise_1 : List UInt8 := dkwX4_raise_1 ++ dktX4_raise_2
def dkwX4_raise_0 : List UInt8 := [42, 27, 182, 0, 223, 153, 0, 32, 28, 184, 0, 235, 153, 0, 25, 29, 133, 9, 28, 154, 0, 9]
abbrev dktX4_raise_0 : List UInt8 := dkwX4_raise_0 ++ dktX4_raise_1
theorem dksX4_raise_0 : cX4_raise.data.toList.drop 0 = dktX4_raise_0 := by decide +kernel
theorem dksX4_raise_1 : cX4_raise.data.toList.drop 22 = dktX4_raise_1 := dk_seg dksX4_raise_0 22 rfl rfl
theorem dksX4_raise_2 : cX4_raise.data.toList.drop 46 = dktX4_raise_2 := dk_seg dksX4_raise_1 24 rfl rfl
theorem dX4_raise_0 : decode cX4_raise 0 = .ok (.aload_n 0, 1) := dk_42 (dk_at dksX4_raise_0 0 rfl rfl)
theorem dX4_raise_1 : decode cX4_raise 1 = .ok (.iload_n 1, 1) := dk_27 (dk_at dksX4_raise_0 1 rfl rfl)
theorem dX4_raise_2 : decode cX4_raise 2 = .ok (.invokevirtual 223, 3) := dk_182 0 223 (dk_at dksX4_raise_0 2 rfl rfl)
theorem dX4_raise_5 : decode cX4_raise 5 = .ok (.ifCond .eq 32, 3) := dk_153 0 32 (dk_at dksX4_raise_0 5 rfl rfl)
theorem dX4_raise_8 : decode cX4_raise 8 = .ok (.iload_n 2, 1) := dk_28 (dk_at dksX4_raise_0 8 rfl rfl)
theorem dX4_raise_9 : decode cX4_raise 9 = .ok (.invokestatic 235, 3) := dk_184 0 235 (dk_at dksX4_raise_0 9 rfl rfl)
theorem dX4_raise_12 : decode cX4_raise 12 = .ok (.ifCond .eq 25, 3) := dk_153 0 25 (dk_at dksX4_raise_0 12 rfl rfl)
theorem dX4_raise_15 : decode cX4_raise 15 = .ok (.iload_n 3, 1) := dk_29 (dk_at dksX4_raise_0 15 rfl rfl)
theorem dX4_raise_16 : decode cX4_raise 16 = .ok (.i2l, 1) := dk_133 (dk_at dksX4_raise_0 16 rfl rfl)
theorem dX4_raise_17 : decode cX4_raise 17 = .ok (.lconst 0, 1) := dk_9 (dk_at dksX4_raise_0 17 rfl rfl)
theorem dX4_raise_18 : decode cX4_raise 18 = .ok (.iload_n 2, 1) := dk_28 (dk_at dksX4_raise_0 18 rfl rfl)
theorem dX4_raise_19 : decode cX4_raise 19 = .ok (.ifCond .ne 9, 3) := dk_154 0 9 (dk_at dksX4_raise_0 19 rfl rfl)
theorem dX4_raise_22 : decode cX4_raise 22 = .ok (.ldc2_w 242, 3) := dk_20 0 242 (dk_at dksX4_raise_1 0 rfl rfl)
theorem dX4_raise_25 : decode cX4_raise 25 = .ok (.goto 6, 3) := dk_167 0 6 (dk_at dksX4_raise_1 3 rfl rfl)
theorem dX4_raise_28 : decode cX4_raise 28 = .ok (.ldc2_w 244, 3) := dk_20 0 244 (dk_at dksX4_raise_1 6 rfl rfl)
theorem dX4_raise_31 : decode cX4_raise 31 = .ok (.invokestatic 80, 3) := dk_184 0 80 (dk_at dksX4_raise_1 9 rfl rfl)
theorem dX4_raise_34 : decode cX4_raise 34 = .ok (.ifCond .ne 5, 3) := dk_154 0 5 (dk_at dksX4_raise_1 12 rfl rfl)
theorem dX4_raise_37 : decode cX4_raise 37 = .ok (.iconst (-1), 1) := dk_2 (dk_at dksX4_raise_1 15 rfl rfl)
theorem dX4_raise_38 : decode cX4_raise 38 = .ok (.ireturn, 1) := dk_172 (dk_at dksX4_raise_1 16 rfl rfl)
theorem dX4_raise_39 : decode cX4_raise 39 = .ok (.aload_n 0, 1) := dk_42 (dk_at dksX4_raise_1 17 rfl rfl)
theorem dX4_raise_40 : decode cX4_raise 40 = .ok (.bipush 8, 2) := dk_16 8 (dk_at dksX4_raise_1 18 rfl rfl)
theorem dX4_raise_42 : decode cX4_raise 42 = .ok (.bipush 9, 2) := dk_16 9 (dk_at dksX4_raise_1 20 rfl rfl)
theorem dX4_raise_44 : decode cX4_raise 44 = .ok (.iload_n 1, 1) := dk_27 (dk_at dksX4_raise_1 22 rfl rfl)
theorem dX4_raise_45 : decode cX4_raise 45 = .ok (.imul, 1) := dk_104 (dk_at dksX4_raise_1 23 rfl rfl)
theorem dX4_raise_46 : decode cX4_raise 46 = .ok (.iadd, 1) := dk_96 (dk_at dksX4_raise_2 0 rfl rfl)
theorem dX4_raise_47 : decode cX4_raise 47 = .ok (.iload_n 2, 1) := dk_28 (dk_at dksX4_raise_2 1 rfl rfl)
theorem dX4_raise_48 : decode cX4_raise 48 = .ok (.ifCond .ne 7, 3) := dk_154 0 7 (dk_at dksX4_raise_2 2 rfl rfl)
theorem dX4_raise_51 : decode cX4_raise 51 = .ok (.iconst 1, 1) := dk_4 (dk_at dksX4_raise_2 5 rfl rfl)
theorem dX4_raise_52 : decode cX4_raise 52 = .ok (.goto 4, 3) := dk_167 0 4 (dk_at dksX4_raise_2 6 rfl rfl)
theorem dX4_raise_55 : decode cX4_raise 55 = .ok (.iconst 0, 1) := dk_3 (dk_at dksX4_raise_2 9 rfl rfl)
theorem dX4_raise_56 : decode cX4_raise 56 = .ok (.iadd, 1) := dk_96 (dk_at dksX4_raise_2 10 rfl rfl)
theorem dX4_raise_57 : decode cX4_raise 57 = .ok (.iload_n 3, 1) := dk_29 (dk_at dksX4_raise_2 11 rfl rfl)
theorem dX4_raise_58 : decode cX4_raise 58 = .ok (.invokevirtual 232, 3) := dk_182 0 232 (dk_at dksX4_raise_2 12 rfl rfl)
theorem dX4_raise_61 : decode cX4_raise 61 = .ok (.ireturn, 1) := dk_172 (dk_at dksX4_raise_2 15 rfl rfl)
abbrev cX4_clip : ByteArray := prog_13_method_59_code
def yX4_clip : MethodName := ⟨RX4, "clip", "(I)I"⟩
def dkwX4_clip_2 : List UInt8 := [182, 0, 165, 172]
abbrev dktX4_clip_2 : List UInt8 := dkwX4_clip_2 ++ []
def dkwX4_clip_1 : List UInt8 := [27, 182, 0, 168, 153, 0, 6, 16, 254, 172, 42, 27, 182, 0, 194, 42, 182, 0, 246, 42, 27, 6]
abbrev dktX4_clip_1 : List UInt8 := dkwX4_clip_1 ++ dktX4_clip_2
def dkwX4_clip_0 : List UInt8 := [42, 27, 182, 0, 223, 154, 0, 5, 2, 172, 42, 182, 0, 209, 42, 27, 6, 182, 0, 165, 153, 0, 11, 42]
abbrev dktX4_clip_0 : List UInt8 := dkwX4_clip_0 ++ dktX4_clip_1
theorem dksX4_clip_0 : cX4_clip.data.toList.drop 0 = dktX4_clip_0 := by decide +kernel
theorem dksX4_clip_1 : cX4_clip.data.toList.drop 24 = dktX4_clip_1 := dk_seg dksX4_clip_0 24 rfl rfl
theorem dksX4_clip_2 : cX4_clip.data.toList.drop 46 = dktX4_clip_2 := dk_seg dksX4_clip_1 22 rfl rfl
theorem dX4_clip_0 : decode cX4_clip 0 = .ok (.aload_n 0, 1) := dk_42 (dk_at dksX4_clip_0 0 rfl rfl)
theorem dX4_clip_1 : decode cX4_clip 1 = .ok (.iload_n 1, 1) := dk_27 (dk_at dksX4_clip_0 1 rfl rfl)
theorem dX4_clip_2 : decode cX4_clip 2 = .ok (.invokevirtual 223, 3) := dk_182 0 223 (dk_at dksX4_clip_0 2 rfl rfl)
theorem dX4_clip_5 : decode cX4_clip 5 = .ok (.ifCond .ne 5, 3) := dk_154 0 5 (dk_at dksX4_clip_0 5 rfl rfl)
theorem dX4_clip_8 : decode cX4_clip 8 = .ok (.iconst (-1), 1) := dk_2 (dk_at dksX4_clip_0 8 rfl rfl)
theorem dX4_clip_9 : decode cX4_clip 9 = .ok (.ireturn, 1) := dk_172 (dk_at dksX4_clip_0 9 rfl rfl)
theorem dX4_clip_10 : decode cX4_clip 10 = .ok (.aload_n 0, 1) := dk_42 (dk_at dksX4_clip_0 10 rfl rfl)
theorem dX4_clip_11 : decode cX4_clip 11 = .ok (.invokevirtual 209, 3) := dk_182 0 209 (dk_at dksX4_clip_0 11 rfl rfl)
theorem dX4_clip_14 : decode cX4_clip 14 = .ok (.aload_n 0, 1) := dk_42 (dk_at dksX4_clip_0 14 rfl rfl)
theorem dX4_clip_15 : decode cX4_clip 15 = .ok (.iload_n 1, 1) := dk_27 (dk_at dksX4_clip_0 15 rfl rfl)
theorem dX4_clip_16 : decode cX4_clip 16 = .ok (.iconst 3, 1) := dk_6 (dk_at dksX4_clip_0 16 rfl rfl)
theorem dX4_clip_17 : decode cX4_clip 17 = .ok (.invokevirtual 165, 3) := dk_182 0 165 (dk_at dksX4_clip_0 17 rfl rfl)
theorem dX4_clip_20 : decode cX4_clip 20 = .ok (.ifCond .eq 11, 3) := dk_153 0 11 (dk_at dksX4_clip_0 20 rfl rfl)
theorem dX4_clip_23 : decode cX4_clip 23 = .ok (.aload_n 0, 1) := dk_42 (dk_at dksX4_clip_0 23 rfl rfl)
theorem dX4_clip_24 : decode cX4_clip 24 = .ok (.iload_n 1, 1) := dk_27 (dk_at dksX4_clip_1 0 rfl rfl)
theorem dX4_clip_25 : decode cX4_clip 25 = .ok (.invokevirtual 168, 3) := dk_182 0 168 (dk_at dksX4_clip_1 1 rfl rfl)
theorem dX4_clip_28 : decode cX4_clip 28 = .ok (.ifCond .eq 6, 3) := dk_153 0 6 (dk_at dksX4_clip_1 4 rfl rfl)
theorem dX4_clip_31 : decode cX4_clip 31 = .ok (.bipush (-2), 2) := dk_16 254 (dk_at dksX4_clip_1 7 rfl rfl)
theorem dX4_clip_33 : decode cX4_clip 33 = .ok (.ireturn, 1) := dk_172 (dk_at dksX4_clip_1 9 rfl rfl)
theorem dX4_clip_34 : decode cX4_clip 34 = .ok (.aload_n 0, 1) := dk_42 (dk_at dksX4_clip_1 10 rfl rfl)
theorem dX4_clip_35 : decode cX4_clip 35 = .ok (.iload_n 1, 1) := dk_27 (dk_at dksX4_clip_1 11 rfl rfl)
theorem dX4_clip_36 : decode cX4_clip 36 = .ok (.invokevirtual 194, 3) := dk_182 0 194 (dk_at dksX4_clip_1 12 rfl rfl)
theorem dX4_clip_39 : decode cX4_clip 39 = .ok (.aload_n 0, 1) := dk_42 (dk_at dksX4_clip_1 15 rfl rfl)
theorem dX4_clip_40 : decode cX4_clip 40 = .ok (.invokevirtual 246, 3) := dk_182 0 246 (dk_at dksX4_clip_1 16 rfl rfl)
theorem dX4_clip_43 : decode cX4_clip 43 = .ok (.aload_n 0, 1) := dk_42 (dk_at dksX4_clip_1 19 rfl rfl)
theorem dX4_clip_44 : decode cX4_clip 44 = .ok (.iload_n 1, 1) := dk_27 (dk_at dksX4_clip_1 20 rfl rfl)
theorem dX4_clip_45 : decode cX4_clip 45 = .ok (.iconst 3, 1) := dk_6 (dk_at dksX4_clip_1 21 rfl rfl)
theorem dX4_clip_46 : decode cX4_clip 46 = .ok (.invokevirtual 165, 3) := dk_182 0 165 (dk_at dksX4_clip_2 0 rfl rfl)
theorem dX4_clip_49 : decode cX4_clip 49 = .ok (.ireturn, 1) := dk_172 (dk_at dksX4_clip_2 3 rfl rfl)
abbrev cX4_losesLetter : ByteArray := prog_13_method_43_code
def yX4_losesLetter : MethodName := ⟨RX4, "losesLetter", "(I)V"⟩
def dkwX4_losesLetter_1 : List UInt8 := [182, 0, 187, 177]
abbrev dktX4_losesLetter_1 : List UInt8 := dkwX4_losesLetter_1 ++ []
def dkwX4_losesLetter_0 : List UInt8 := [42, 27, 6, 42, 27, 6, 182, 0, 165, 158, 0, 14, 42, 27, 6, 182, 0, 165, 4, 100, 167, 0, 4, 3]
abbrev dktX4_losesLetter_0 : List UInt8 := dkwX4_losesLetter_0 ++ dktX4_losesLetter_1
theorem dksX4_losesLetter_0 : cX4_losesLetter.data.toList.drop 0 = dktX4_losesLetter_0 := by decide +kernel
theorem dksX4_losesLetter_1 : cX4_losesLetter.data.toList.drop 24 = dktX4_losesLetter_1 := dk_seg dksX4_losesLetter_0 24 rfl rfl
theorem dX4_losesLetter_0 : decode cX4_losesLetter 0 = .ok (.aload_n 0, 1) := dk_42 (dk_at dksX4_losesLetter_0 0 rfl rfl)
theorem dX4_losesLetter_1 : decode cX4_losesLetter 1 = .ok (.iload_n 1, 1) := dk_27 (dk_at dksX4_losesLetter_0 1 rfl rfl)
theorem dX4_losesLetter_2 : decode cX4_losesLetter 2 = .ok (.iconst 3, 1) := dk_6 (dk_at dksX4_losesLetter_0 2 rfl rfl)
theorem dX4_losesLetter_3 : decode cX4_losesLetter 3 = .ok (.aload_n 0, 1) := dk_42 (dk_at dksX4_losesLetter_0 3 rfl rfl)
theorem dX4_losesLetter_4 : decode cX4_losesLetter 4 = .ok (.iload_n 1, 1) := dk_27 (dk_at dksX4_losesLetter_0 4 rfl rfl)
theorem dX4_losesLetter_5 : decode cX4_losesLetter 5 = .ok (.iconst 3, 1) := dk_6 (dk_at dksX4_losesLetter_0 5 rfl rfl)
theorem dX4_losesLetter_6 : decode cX4_losesLetter 6 = .ok (.invokevirtual 165, 3) := dk_182 0 165 (dk_at dksX4_losesLetter_0 6 rfl rfl)
theorem dX4_losesLetter_9 : decode cX4_losesLetter 9 = .ok (.ifCond .le 14, 3) := dk_158 0 14 (dk_at dksX4_losesLetter_0 9 rfl rfl)
theorem dX4_losesLetter_12 : decode cX4_losesLetter 12 = .ok (.aload_n 0, 1) := dk_42 (dk_at dksX4_losesLetter_0 12 rfl rfl)
theorem dX4_losesLetter_13 : decode cX4_losesLetter 13 = .ok (.iload_n 1, 1) := dk_27 (dk_at dksX4_losesLetter_0 13 rfl rfl)
theorem dX4_losesLetter_14 : decode cX4_losesLetter 14 = .ok (.iconst 3, 1) := dk_6 (dk_at dksX4_losesLetter_0 14 rfl rfl)
theorem dX4_losesLetter_15 : decode cX4_losesLetter 15 = .ok (.invokevirtual 165, 3) := dk_182 0 165 (dk_at dksX4_losesLetter_0 15 rfl rfl)
theorem dX4_losesLetter_18 : decode cX4_losesLetter 18 = .ok (.iconst 1, 1) := dk_4 (dk_at dksX4_losesLetter_0 18 rfl rfl)
theorem dX4_losesLetter_19 : decode cX4_losesLetter 19 = .ok (.isub, 1) := dk_100 (dk_at dksX4_losesLetter_0 19 rfl rfl)
theorem dX4_losesLetter_20 : decode cX4_losesLetter 20 = .ok (.goto 4, 3) := dk_167 0 4 (dk_at dksX4_losesLetter_0 20 rfl rfl)
theorem dX4_losesLetter_23 : decode cX4_losesLetter 23 = .ok (.iconst 0, 1) := dk_3 (dk_at dksX4_losesLetter_0 23 rfl rfl)
theorem dX4_losesLetter_24 : decode cX4_losesLetter 24 = .ok (.invokevirtual 187, 3) := dk_182 0 187 (dk_at dksX4_losesLetter_1 0 rfl rfl)
theorem dX4_losesLetter_27 : decode cX4_losesLetter 27 = .ok (.return_, 1) := dk_177 (dk_at dksX4_losesLetter_1 3 rfl rfl)
abbrev cX4_becomesOf : ByteArray := prog_13_method_31_code
def yX4_becomesOf : MethodName := ⟨RX4, "becomesOf", "(III)V"⟩
def dkwX4_becomesOf_0 : List UInt8 := [42, 180, 0, 13, 16, 8, 16, 9, 27, 104, 96, 28, 96, 29, 79, 177]
abbrev dktX4_becomesOf_0 : List UInt8 := dkwX4_becomesOf_0 ++ []
theorem dksX4_becomesOf_0 : cX4_becomesOf.data.toList.drop 0 = dktX4_becomesOf_0 := by decide +kernel
theorem dX4_becomesOf_0 : decode cX4_becomesOf 0 = .ok (.aload_n 0, 1) := dk_42 (dk_at dksX4_becomesOf_0 0 rfl rfl)
theorem dX4_becomesOf_1 : decode cX4_becomesOf 1 = .ok (.getfield 13, 3) := dk_180 0 13 (dk_at dksX4_becomesOf_0 1 rfl rfl)
theorem dX4_becomesOf_4 : decode cX4_becomesOf 4 = .ok (.bipush 8, 2) := dk_16 8 (dk_at dksX4_becomesOf_0 4 rfl rfl)
theorem dX4_becomesOf_6 : decode cX4_becomesOf 6 = .ok (.bipush 9, 2) := dk_16 9 (dk_at dksX4_becomesOf_0 6 rfl rfl)
theorem dX4_becomesOf_8 : decode cX4_becomesOf 8 = .ok (.iload_n 1, 1) := dk_27 (dk_at dksX4_becomesOf_0 8 rfl rfl)
theorem dX4_becomesOf_9 : decode cX4_becomesOf 9 = .ok (.imul, 1) := dk_104 (dk_at dksX4_becomesOf_0 9 rfl rfl)
theorem dX4_becomesOf_10 : decode cX4_becomesOf 10 = .ok (.iadd, 1) := dk_96 (dk_at dksX4_becomesOf_0 10 rfl rfl)
theorem dX4_becomesOf_11 : decode cX4_becomesOf 11 = .ok (.iload_n 2, 1) := dk_28 (dk_at dksX4_becomesOf_0 11 rfl rfl)
theorem dX4_becomesOf_12 : decode cX4_becomesOf 12 = .ok (.iadd, 1) := dk_96 (dk_at dksX4_becomesOf_0 12 rfl rfl)
theorem dX4_becomesOf_13 : decode cX4_becomesOf 13 = .ok (.iload_n 3, 1) := dk_29 (dk_at dksX4_becomesOf_0 13 rfl rfl)
theorem dX4_becomesOf_14 : decode cX4_becomesOf 14 = .ok (.iastore, 1) := dk_79 (dk_at dksX4_becomesOf_0 14 rfl rfl)
theorem dX4_becomesOf_15 : decode cX4_becomesOf 15 = .ok (.return_, 1) := dk_177 (dk_at dksX4_becomesOf_0 15 rfl rfl)
abbrev cX4_settles : ByteArray := prog_13_method_29_code
def yX4_settles : MethodName := ⟨RX4, "settles", "()V"⟩
def dkwX4_settles_1 : List UInt8 := [167, 255, 235, 177]
abbrev dktX4_settles_1 : List UInt8 := dkwX4_settles_1 ++ []
def dkwX4_settles_0 : List UInt8 := [3, 60, 27, 16, 75, 162, 0, 21, 42, 180, 0, 7, 27, 42, 180, 0, 13, 27, 46, 79, 132, 1, 1]
abbrev dktX4_settles_0 : List UInt8 := dkwX4_settles_0 ++ dktX4_settles_1
theorem dksX4_settles_0 : cX4_settles.data.toList.drop 0 = dktX4_settles_0 := by decide +kernel
theorem dksX4_settles_1 : cX4_settles.data.toList.drop 23 = dktX4_settles_1 := dk_seg dksX4_settles_0 23 rfl rfl
theorem dX4_settles_0 : decode cX4_settles 0 = .ok (.iconst 0, 1) := dk_3 (dk_at dksX4_settles_0 0 rfl rfl)
theorem dX4_settles_1 : decode cX4_settles 1 = .ok (.istore_n 1, 1) := dk_60 (dk_at dksX4_settles_0 1 rfl rfl)
theorem dX4_settles_2 : decode cX4_settles 2 = .ok (.iload_n 1, 1) := dk_27 (dk_at dksX4_settles_0 2 rfl rfl)
theorem dX4_settles_3 : decode cX4_settles 3 = .ok (.bipush 75, 2) := dk_16 75 (dk_at dksX4_settles_0 3 rfl rfl)
theorem dX4_settles_5 : decode cX4_settles 5 = .ok (.if_icmp .ge 21, 3) := dk_162 0 21 (dk_at dksX4_settles_0 5 rfl rfl)
theorem dX4_settles_8 : decode cX4_settles 8 = .ok (.aload_n 0, 1) := dk_42 (dk_at dksX4_settles_0 8 rfl rfl)
theorem dX4_settles_9 : decode cX4_settles 9 = .ok (.getfield 7, 3) := dk_180 0 7 (dk_at dksX4_settles_0 9 rfl rfl)
theorem dX4_settles_12 : decode cX4_settles 12 = .ok (.iload_n 1, 1) := dk_27 (dk_at dksX4_settles_0 12 rfl rfl)
theorem dX4_settles_13 : decode cX4_settles 13 = .ok (.aload_n 0, 1) := dk_42 (dk_at dksX4_settles_0 13 rfl rfl)
theorem dX4_settles_14 : decode cX4_settles 14 = .ok (.getfield 13, 3) := dk_180 0 13 (dk_at dksX4_settles_0 14 rfl rfl)
theorem dX4_settles_17 : decode cX4_settles 17 = .ok (.iload_n 1, 1) := dk_27 (dk_at dksX4_settles_0 17 rfl rfl)
theorem dX4_settles_18 : decode cX4_settles 18 = .ok (.iaload, 1) := dk_46 (dk_at dksX4_settles_0 18 rfl rfl)
theorem dX4_settles_19 : decode cX4_settles 19 = .ok (.iastore, 1) := dk_79 (dk_at dksX4_settles_0 19 rfl rfl)
theorem dX4_settles_20 : decode cX4_settles 20 = .ok (.iinc 1 1, 3) := dk_132 1 1 (dk_at dksX4_settles_0 20 rfl rfl)
theorem dX4_settles_23 : decode cX4_settles 23 = .ok (.goto (-21), 3) := dk_167 255 235 (dk_at dksX4_settles_1 0 rfl rfl)
theorem dX4_settles_26 : decode cX4_settles 26 = .ok (.return_, 1) := dk_177 (dk_at dksX4_settles_1 3 rfl rfl)
abbrev cX4_teach : ByteArray := prog_13_method_60_code
def yX4_teach : MethodName := ⟨RX4, "teach", "(II)I"⟩
def dkwX4_teach_3 : List UInt8 := [180, 0, 7, 16, 8, 16, 9, 27, 104, 96, 6, 96, 29, 4, 96, 79, 29, 4, 96, 172]
abbrev dktX4_teach_3 : List UInt8 := dkwX4_teach_3 ++ []
def dkwX4_teach_2 : List UInt8 := [160, 0, 6, 16, 253, 172, 42, 180, 0, 7, 16, 8, 16, 9, 27, 104, 96, 7, 96, 29, 96, 28, 79, 42]
abbrev dktX4_teach_2 : List UInt8 := dkwX4_teach_2 ++ dktX4_teach_3
def dkwX4_teach_1 : List UInt8 := [42, 182, 0, 209, 42, 27, 182, 0, 168, 153, 0, 6, 16, 254, 172, 42, 27, 6, 182, 0, 165, 62, 29, 8]
abbrev dktX4_teach_1 : List UInt8 := dkwX4_teach_1 ++ dktX4_teach_2
def dkwX4_teach_0 : List UInt8 := [42, 27, 182, 0, 223, 153, 0, 17, 28, 133, 20, 0, 114, 20, 0, 116, 184, 0, 80, 154, 0, 5, 2, 172]
abbrev dktX4_teach_0 : List UInt8 := dkwX4_teach_0 ++ dktX4_teach_1
theorem dksX4_teach_0 : cX4_teach.data.toList.drop 0 = dktX4_teach_0 := by decide +kernel
theorem dksX4_teach_1 : cX4_teach.data.toList.drop 24 = dktX4_teach_1 := dk_seg dksX4_teach_0 24 rfl rfl
theorem dksX4_teach_2 : cX4_teach.data.toList.drop 48 = dktX4_teach_2 := dk_seg dksX4_teach_1 24 rfl rfl
theorem dksX4_teach_3 : cX4_teach.data.toList.drop 72 = dktX4_teach_3 := dk_seg dksX4_teach_2 24 rfl rfl
theorem dX4_teach_0 : decode cX4_teach 0 = .ok (.aload_n 0, 1) := dk_42 (dk_at dksX4_teach_0 0 rfl rfl)
theorem dX4_teach_1 : decode cX4_teach 1 = .ok (.iload_n 1, 1) := dk_27 (dk_at dksX4_teach_0 1 rfl rfl)
theorem dX4_teach_2 : decode cX4_teach 2 = .ok (.invokevirtual 223, 3) := dk_182 0 223 (dk_at dksX4_teach_0 2 rfl rfl)
theorem dX4_teach_5 : decode cX4_teach 5 = .ok (.ifCond .eq 17, 3) := dk_153 0 17 (dk_at dksX4_teach_0 5 rfl rfl)
theorem dX4_teach_8 : decode cX4_teach 8 = .ok (.iload_n 2, 1) := dk_28 (dk_at dksX4_teach_0 8 rfl rfl)
theorem dX4_teach_9 : decode cX4_teach 9 = .ok (.i2l, 1) := dk_133 (dk_at dksX4_teach_0 9 rfl rfl)
theorem dX4_teach_10 : decode cX4_teach 10 = .ok (.ldc2_w 114, 3) := dk_20 0 114 (dk_at dksX4_teach_0 10 rfl rfl)
theorem dX4_teach_13 : decode cX4_teach 13 = .ok (.ldc2_w 116, 3) := dk_20 0 116 (dk_at dksX4_teach_0 13 rfl rfl)
theorem dX4_teach_16 : decode cX4_teach 16 = .ok (.invokestatic 80, 3) := dk_184 0 80 (dk_at dksX4_teach_0 16 rfl rfl)
theorem dX4_teach_19 : decode cX4_teach 19 = .ok (.ifCond .ne 5, 3) := dk_154 0 5 (dk_at dksX4_teach_0 19 rfl rfl)
theorem dX4_teach_22 : decode cX4_teach 22 = .ok (.iconst (-1), 1) := dk_2 (dk_at dksX4_teach_0 22 rfl rfl)
theorem dX4_teach_23 : decode cX4_teach 23 = .ok (.ireturn, 1) := dk_172 (dk_at dksX4_teach_0 23 rfl rfl)
theorem dX4_teach_24 : decode cX4_teach 24 = .ok (.aload_n 0, 1) := dk_42 (dk_at dksX4_teach_1 0 rfl rfl)
theorem dX4_teach_25 : decode cX4_teach 25 = .ok (.invokevirtual 209, 3) := dk_182 0 209 (dk_at dksX4_teach_1 1 rfl rfl)
theorem dX4_teach_28 : decode cX4_teach 28 = .ok (.aload_n 0, 1) := dk_42 (dk_at dksX4_teach_1 4 rfl rfl)
theorem dX4_teach_29 : decode cX4_teach 29 = .ok (.iload_n 1, 1) := dk_27 (dk_at dksX4_teach_1 5 rfl rfl)
theorem dX4_teach_30 : decode cX4_teach 30 = .ok (.invokevirtual 168, 3) := dk_182 0 168 (dk_at dksX4_teach_1 6 rfl rfl)
theorem dX4_teach_33 : decode cX4_teach 33 = .ok (.ifCond .eq 6, 3) := dk_153 0 6 (dk_at dksX4_teach_1 9 rfl rfl)
theorem dX4_teach_36 : decode cX4_teach 36 = .ok (.bipush (-2), 2) := dk_16 254 (dk_at dksX4_teach_1 12 rfl rfl)
theorem dX4_teach_38 : decode cX4_teach 38 = .ok (.ireturn, 1) := dk_172 (dk_at dksX4_teach_1 14 rfl rfl)
theorem dX4_teach_39 : decode cX4_teach 39 = .ok (.aload_n 0, 1) := dk_42 (dk_at dksX4_teach_1 15 rfl rfl)
theorem dX4_teach_40 : decode cX4_teach 40 = .ok (.iload_n 1, 1) := dk_27 (dk_at dksX4_teach_1 16 rfl rfl)
theorem dX4_teach_41 : decode cX4_teach 41 = .ok (.iconst 3, 1) := dk_6 (dk_at dksX4_teach_1 17 rfl rfl)
theorem dX4_teach_42 : decode cX4_teach 42 = .ok (.invokevirtual 165, 3) := dk_182 0 165 (dk_at dksX4_teach_1 18 rfl rfl)
theorem dX4_teach_45 : decode cX4_teach 45 = .ok (.istore_n 3, 1) := dk_62 (dk_at dksX4_teach_1 21 rfl rfl)
theorem dX4_teach_46 : decode cX4_teach 46 = .ok (.iload_n 3, 1) := dk_29 (dk_at dksX4_teach_1 22 rfl rfl)
theorem dX4_teach_47 : decode cX4_teach 47 = .ok (.iconst 5, 1) := dk_8 (dk_at dksX4_teach_1 23 rfl rfl)
theorem dX4_teach_48 : decode cX4_teach 48 = .ok (.if_icmp .ne 6, 3) := dk_160 0 6 (dk_at dksX4_teach_2 0 rfl rfl)
theorem dX4_teach_51 : decode cX4_teach 51 = .ok (.bipush (-3), 2) := dk_16 253 (dk_at dksX4_teach_2 3 rfl rfl)
theorem dX4_teach_53 : decode cX4_teach 53 = .ok (.ireturn, 1) := dk_172 (dk_at dksX4_teach_2 5 rfl rfl)
theorem dX4_teach_54 : decode cX4_teach 54 = .ok (.aload_n 0, 1) := dk_42 (dk_at dksX4_teach_2 6 rfl rfl)
theorem dX4_teach_55 : decode cX4_teach 55 = .ok (.getfield 7, 3) := dk_180 0 7 (dk_at dksX4_teach_2 7 rfl rfl)
theorem dX4_teach_58 : decode cX4_teach 58 = .ok (.bipush 8, 2) := dk_16 8 (dk_at dksX4_teach_2 10 rfl rfl)
theorem dX4_teach_60 : decode cX4_teach 60 = .ok (.bipush 9, 2) := dk_16 9 (dk_at dksX4_teach_2 12 rfl rfl)
theorem dX4_teach_62 : decode cX4_teach 62 = .ok (.iload_n 1, 1) := dk_27 (dk_at dksX4_teach_2 14 rfl rfl)
theorem dX4_teach_63 : decode cX4_teach 63 = .ok (.imul, 1) := dk_104 (dk_at dksX4_teach_2 15 rfl rfl)
theorem dX4_teach_64 : decode cX4_teach 64 = .ok (.iadd, 1) := dk_96 (dk_at dksX4_teach_2 16 rfl rfl)
theorem dX4_teach_65 : decode cX4_teach 65 = .ok (.iconst 4, 1) := dk_7 (dk_at dksX4_teach_2 17 rfl rfl)
theorem dX4_teach_66 : decode cX4_teach 66 = .ok (.iadd, 1) := dk_96 (dk_at dksX4_teach_2 18 rfl rfl)
theorem dX4_teach_67 : decode cX4_teach 67 = .ok (.iload_n 3, 1) := dk_29 (dk_at dksX4_teach_2 19 rfl rfl)
theorem dX4_teach_68 : decode cX4_teach 68 = .ok (.iadd, 1) := dk_96 (dk_at dksX4_teach_2 20 rfl rfl)
theorem dX4_teach_69 : decode cX4_teach 69 = .ok (.iload_n 2, 1) := dk_28 (dk_at dksX4_teach_2 21 rfl rfl)
theorem dX4_teach_70 : decode cX4_teach 70 = .ok (.iastore, 1) := dk_79 (dk_at dksX4_teach_2 22 rfl rfl)
theorem dX4_teach_71 : decode cX4_teach 71 = .ok (.aload_n 0, 1) := dk_42 (dk_at dksX4_teach_2 23 rfl rfl)
theorem dX4_teach_72 : decode cX4_teach 72 = .ok (.getfield 7, 3) := dk_180 0 7 (dk_at dksX4_teach_3 0 rfl rfl)
theorem dX4_teach_75 : decode cX4_teach 75 = .ok (.bipush 8, 2) := dk_16 8 (dk_at dksX4_teach_3 3 rfl rfl)
theorem dX4_teach_77 : decode cX4_teach 77 = .ok (.bipush 9, 2) := dk_16 9 (dk_at dksX4_teach_3 5 rfl rfl)
theorem dX4_teach_79 : decode cX4_teach 79 = .ok (.iload_n 1, 1) := dk_27 (dk_at dksX4_teach_3 7 rfl rfl)
theorem dX4_teach_80 : decode cX4_teach 80 = .ok (.imul, 1) := dk_104 (dk_at dksX4_teach_3 8 rfl rfl)
theorem dX4_teach_81 : decode cX4_teach 81 = .ok (.iadd, 1) := dk_96 (dk_at dksX4_teach_3 9 rfl rfl)
theorem dX4_teach_82 : decode cX4_teach 82 = .ok (.iconst 3, 1) := dk_6 (dk_at dksX4_teach_3 10 rfl rfl)
theorem dX4_teach_83 : decode cX4_teach 83 = .ok (.iadd, 1) := dk_96 (dk_at dksX4_teach_3 11 rfl rfl)
theorem dX4_teach_84 : decode cX4_teach 84 = .ok (.iload_n 3, 1) := dk_29 (dk_at dksX4_teach_3 12 rfl rfl)
theorem dX4_teach_85 : decode cX4_teach 85 = .ok (.iconst 1, 1) := dk_4 (dk_at dksX4_teach_3 13 rfl rfl)
theorem dX4_teach_86 : decode cX4_teach 86 = .ok (.iadd, 1) := dk_96 (dk_at dksX4_teach_3 14 rfl rfl)
theorem dX4_teach_87 : decode cX4_teach 87 = .ok (.iastore, 1) := dk_79 (dk_at dksX4_teach_3 15 rfl rfl)
theorem dX4_teach_88 : decode cX4_teach 88 = .ok (.iload_n 3, 1) := dk_29 (dk_at dksX4_teach_3 16 rfl rfl)
theorem dX4_teach_89 : decode cX4_teach 89 = .ok (.iconst 1, 1) := dk_4 (dk_at dksX4_teach_3 17 rfl rfl)
theorem dX4_teach_90 : decode cX4_teach 90 = .ok (.iadd, 1) := dk_96 (dk_at dksX4_teach_3 18 rfl rfl)
theorem dX4_teach_91 : decode cX4_teach 91 = .ok (.ireturn, 1) := dk_172 (dk_at dksX4_teach_3 19 rfl rfl)
abbrev cX4_cross : ByteArray := prog_13_method_61_code
def yX4_cross : MethodName := ⟨RX4, "cross", "(II)I"⟩
def dkwX4_cross_4 : List UInt8 := [27, 29, 182, 0, 165, 79, 132, 3, 1, 167, 255, 207, 42, 28, 6, 182, 0, 165, 172]
abbrev dktX4_cross_4 : List UInt8 := dkwX4_cross_4 ++ []
def dkwX4_cross_3 : List UInt8 := [96, 29, 96, 42, 28, 29, 182, 0, 165, 79, 42, 180, 0, 7, 16, 8, 16, 9, 28, 104, 96, 29, 96, 42]
abbrev dktX4_cross_3 : List UInt8 := dkwX4_cross_3 ++ dktX4_cross_4
def dkwX4_cross_2 : List UInt8 := [159, 0, 6, 16, 254, 172, 6, 62, 29, 16, 9, 162, 0, 49, 42, 180, 0, 7, 16, 8, 16, 9, 27, 104]
abbrev dktX4_cross_2 : List UInt8 := dkwX4_cross_2 ++ dktX4_cross_3
def dkwX4_cross_1 : List UInt8 := [182, 0, 209, 42, 27, 182, 0, 168, 154, 0, 18, 42, 27, 5, 182, 0, 165, 42, 28, 5, 182, 0, 165]
abbrev dktX4_cross_1 : List UInt8 := dkwX4_cross_1 ++ dktX4_cross_2
def dkwX4_cross_0 : List UInt8 := [42, 27, 182, 0, 223, 153, 0, 16, 42, 28, 182, 0, 223, 153, 0, 8, 27, 28, 160, 0, 5, 2, 172, 42]
abbrev dktX4_cross_0 : List UInt8 := dkwX4_cross_0 ++ dktX4_cross_1
theorem dksX4_cross_0 : cX4_cross.data.toList.drop 0 = dktX4_cross_0 := by decide +kernel
theorem dksX4_cross_1 : cX4_cross.data.toList.drop 24 = dktX4_cross_1 := dk_seg dksX4_cross_0 24 rfl rfl
theorem dksX4_cross_2 : cX4_cross.data.toList.drop 47 = dktX4_cross_2 := dk_seg dksX4_cross_1 23 rfl rfl
theorem dksX4_cross_3 : cX4_cross.data.toList.drop 71 = dktX4_cross_3 := dk_seg dksX4_cross_2 24 rfl rfl
theorem dksX4_cross_4 : cX4_cross.data.toList.drop 95 = dktX4_cross_4 := dk_seg dksX4_cross_3 24 rfl rfl
theorem dX4_cross_0 : decode cX4_cross 0 = .ok (.aload_n 0, 1) := dk_42 (dk_at dksX4_cross_0 0 rfl rfl)
theorem dX4_cross_1 : decode cX4_cross 1 = .ok (.iload_n 1, 1) := dk_27 (dk_at dksX4_cross_0 1 rfl rfl)
theorem dX4_cross_2 : decode cX4_cross 2 = .ok (.invokevirtual 223, 3) := dk_182 0 223 (dk_at dksX4_cross_0 2 rfl rfl)
theorem dX4_cross_5 : decode cX4_cross 5 = .ok (.ifCond .eq 16, 3) := dk_153 0 16 (dk_at dksX4_cross_0 5 rfl rfl)
theorem dX4_cross_8 : decode cX4_cross 8 = .ok (.aload_n 0, 1) := dk_42 (dk_at dksX4_cross_0 8 rfl rfl)
theorem dX4_cross_9 : decode cX4_cross 9 = .ok (.iload_n 2, 1) := dk_28 (dk_at dksX4_cross_0 9 rfl rfl)
theorem dX4_cross_10 : decode cX4_cross 10 = .ok (.invokevirtual 223, 3) := dk_182 0 223 (dk_at dksX4_cross_0 10 rfl rfl)
theorem dX4_cross_13 : decode cX4_cross 13 = .ok (.ifCond .eq 8, 3) := dk_153 0 8 (dk_at dksX4_cross_0 13 rfl rfl)
theorem dX4_cross_16 : decode cX4_cross 16 = .ok (.iload_n 1, 1) := dk_27 (dk_at dksX4_cross_0 16 rfl rfl)
theorem dX4_cross_17 : decode cX4_cross 17 = .ok (.iload_n 2, 1) := dk_28 (dk_at dksX4_cross_0 17 rfl rfl)
theorem dX4_cross_18 : decode cX4_cross 18 = .ok (.if_icmp .ne 5, 3) := dk_160 0 5 (dk_at dksX4_cross_0 18 rfl rfl)
theorem dX4_cross_21 : decode cX4_cross 21 = .ok (.iconst (-1), 1) := dk_2 (dk_at dksX4_cross_0 21 rfl rfl)
theorem dX4_cross_22 : decode cX4_cross 22 = .ok (.ireturn, 1) := dk_172 (dk_at dksX4_cross_0 22 rfl rfl)
theorem dX4_cross_23 : decode cX4_cross 23 = .ok (.aload_n 0, 1) := dk_42 (dk_at dksX4_cross_0 23 rfl rfl)
theorem dX4_cross_24 : decode cX4_cross 24 = .ok (.invokevirtual 209, 3) := dk_182 0 209 (dk_at dksX4_cross_1 0 rfl rfl)
theorem dX4_cross_27 : decode cX4_cross 27 = .ok (.aload_n 0, 1) := dk_42 (dk_at dksX4_cross_1 3 rfl rfl)
theorem dX4_cross_28 : decode cX4_cross 28 = .ok (.iload_n 1, 1) := dk_27 (dk_at dksX4_cross_1 4 rfl rfl)
theorem dX4_cross_29 : decode cX4_cross 29 = .ok (.invokevirtual 168, 3) := dk_182 0 168 (dk_at dksX4_cross_1 5 rfl rfl)
theorem dX4_cross_32 : decode cX4_cross 32 = .ok (.ifCond .ne 18, 3) := dk_154 0 18 (dk_at dksX4_cross_1 8 rfl rfl)
theorem dX4_cross_35 : decode cX4_cross 35 = .ok (.aload_n 0, 1) := dk_42 (dk_at dksX4_cross_1 11 rfl rfl)
theorem dX4_cross_36 : decode cX4_cross 36 = .ok (.iload_n 1, 1) := dk_27 (dk_at dksX4_cross_1 12 rfl rfl)
theorem dX4_cross_37 : decode cX4_cross 37 = .ok (.iconst 2, 1) := dk_5 (dk_at dksX4_cross_1 13 rfl rfl)
theorem dX4_cross_38 : decode cX4_cross 38 = .ok (.invokevirtual 165, 3) := dk_182 0 165 (dk_at dksX4_cross_1 14 rfl rfl)
theorem dX4_cross_41 : decode cX4_cross 41 = .ok (.aload_n 0, 1) := dk_42 (dk_at dksX4_cross_1 17 rfl rfl)
theorem dX4_cross_42 : decode cX4_cross 42 = .ok (.iload_n 2, 1) := dk_28 (dk_at dksX4_cross_1 18 rfl rfl)
theorem dX4_cross_43 : decode cX4_cross 43 = .ok (.iconst 2, 1) := dk_5 (dk_at dksX4_cross_1 19 rfl rfl)
theorem dX4_cross_44 : decode cX4_cross 44 = .ok (.invokevirtual 165, 3) := dk_182 0 165 (dk_at dksX4_cross_1 20 rfl rfl)
theorem dX4_cross_47 : decode cX4_cross 47 = .ok (.if_icmp .eq 6, 3) := dk_159 0 6 (dk_at dksX4_cross_2 0 rfl rfl)
theorem dX4_cross_50 : decode cX4_cross 50 = .ok (.bipush (-2), 2) := dk_16 254 (dk_at dksX4_cross_2 3 rfl rfl)
theorem dX4_cross_52 : decode cX4_cross 52 = .ok (.ireturn, 1) := dk_172 (dk_at dksX4_cross_2 5 rfl rfl)
theorem dX4_cross_53 : decode cX4_cross 53 = .ok (.iconst 3, 1) := dk_6 (dk_at dksX4_cross_2 6 rfl rfl)
theorem dX4_cross_54 : decode cX4_cross 54 = .ok (.istore_n 3, 1) := dk_62 (dk_at dksX4_cross_2 7 rfl rfl)
theorem dX4_cross_55 : decode cX4_cross 55 = .ok (.iload_n 3, 1) := dk_29 (dk_at dksX4_cross_2 8 rfl rfl)
theorem dX4_cross_56 : decode cX4_cross 56 = .ok (.bipush 9, 2) := dk_16 9 (dk_at dksX4_cross_2 9 rfl rfl)
theorem dX4_cross_58 : decode cX4_cross 58 = .ok (.if_icmp .ge 49, 3) := dk_162 0 49 (dk_at dksX4_cross_2 11 rfl rfl)
theorem dX4_cross_61 : decode cX4_cross 61 = .ok (.aload_n 0, 1) := dk_42 (dk_at dksX4_cross_2 14 rfl rfl)
theorem dX4_cross_62 : decode cX4_cross 62 = .ok (.getfield 7, 3) := dk_180 0 7 (dk_at dksX4_cross_2 15 rfl rfl)
theorem dX4_cross_65 : decode cX4_cross 65 = .ok (.bipush 8, 2) := dk_16 8 (dk_at dksX4_cross_2 18 rfl rfl)
theorem dX4_cross_67 : decode cX4_cross 67 = .ok (.bipush 9, 2) := dk_16 9 (dk_at dksX4_cross_2 20 rfl rfl)
theorem dX4_cross_69 : decode cX4_cross 69 = .ok (.iload_n 1, 1) := dk_27 (dk_at dksX4_cross_2 22 rfl rfl)
theorem dX4_cross_70 : decode cX4_cross 70 = .ok (.imul, 1) := dk_104 (dk_at dksX4_cross_2 23 rfl rfl)
theorem dX4_cross_71 : decode cX4_cross 71 = .ok (.iadd, 1) := dk_96 (dk_at dksX4_cross_3 0 rfl rfl)
theorem dX4_cross_72 : decode cX4_cross 72 = .ok (.iload_n 3, 1) := dk_29 (dk_at dksX4_cross_3 1 rfl rfl)
theorem dX4_cross_73 : decode cX4_cross 73 = .ok (.iadd, 1) := dk_96 (dk_at dksX4_cross_3 2 rfl rfl)
theorem dX4_cross_74 : decode cX4_cross 74 = .ok (.aload_n 0, 1) := dk_42 (dk_at dksX4_cross_3 3 rfl rfl)
theorem dX4_cross_75 : decode cX4_cross 75 = .ok (.iload_n 2, 1) := dk_28 (dk_at dksX4_cross_3 4 rfl rfl)
theorem dX4_cross_76 : decode cX4_cross 76 = .ok (.iload_n 3, 1) := dk_29 (dk_at dksX4_cross_3 5 rfl rfl)
theorem dX4_cross_77 : decode cX4_cross 77 = .ok (.invokevirtual 165, 3) := dk_182 0 165 (dk_at dksX4_cross_3 6 rfl rfl)
theorem dX4_cross_80 : decode cX4_cross 80 = .ok (.iastore, 1) := dk_79 (dk_at dksX4_cross_3 9 rfl rfl)
theorem dX4_cross_81 : decode cX4_cross 81 = .ok (.aload_n 0, 1) := dk_42 (dk_at dksX4_cross_3 10 rfl rfl)
theorem dX4_cross_82 : decode cX4_cross 82 = .ok (.getfield 7, 3) := dk_180 0 7 (dk_at dksX4_cross_3 11 rfl rfl)
theorem dX4_cross_85 : decode cX4_cross 85 = .ok (.bipush 8, 2) := dk_16 8 (dk_at dksX4_cross_3 14 rfl rfl)
theorem dX4_cross_87 : decode cX4_cross 87 = .ok (.bipush 9, 2) := dk_16 9 (dk_at dksX4_cross_3 16 rfl rfl)
theorem dX4_cross_89 : decode cX4_cross 89 = .ok (.iload_n 2, 1) := dk_28 (dk_at dksX4_cross_3 18 rfl rfl)
theorem dX4_cross_90 : decode cX4_cross 90 = .ok (.imul, 1) := dk_104 (dk_at dksX4_cross_3 19 rfl rfl)
theorem dX4_cross_91 : decode cX4_cross 91 = .ok (.iadd, 1) := dk_96 (dk_at dksX4_cross_3 20 rfl rfl)
theorem dX4_cross_92 : decode cX4_cross 92 = .ok (.iload_n 3, 1) := dk_29 (dk_at dksX4_cross_3 21 rfl rfl)
theorem dX4_cross_93 : decode cX4_cross 93 = .ok (.iadd, 1) := dk_96 (dk_at dksX4_cross_3 22 rfl rfl)
theorem dX4_cross_94 : decode cX4_cross 94 = .ok (.aload_n 0, 1) := dk_42 (dk_at dksX4_cross_3 23 rfl rfl)
theorem dX4_cross_95 : decode cX4_cross 95 = .ok (.iload_n 1, 1) := dk_27 (dk_at dksX4_cross_4 0 rfl rfl)
theorem dX4_cross_96 : decode cX4_cross 96 = .ok (.iload_n 3, 1) := dk_29 (dk_at dksX4_cross_4 1 rfl rfl)
theorem dX4_cross_97 : decode cX4_cross 97 = .ok (.invokevirtual 165, 3) := dk_182 0 165 (dk_at dksX4_cross_4 2 rfl rfl)
theorem dX4_cross_100 : decode cX4_cross 100 = .ok (.iastore, 1) := dk_79 (dk_at dksX4_cross_4 5 rfl rfl)
theorem dX4_cross_101 : decode cX4_cross 101 = .ok (.iinc 3 1, 3) := dk_132 3 1 (dk_at dksX4_cross_4 6 rfl rfl)
theorem dX4_cross_104 : decode cX4_cross 104 = .ok (.goto (-49), 3) := dk_167 255 207 (dk_at dksX4_cross_4 9 rfl rfl)
theorem dX4_cross_107 : decode cX4_cross 107 = .ok (.aload_n 0, 1) := dk_42 (dk_at dksX4_cross_4 12 rfl rfl)
theorem dX4_cross_108 : decode cX4_cross 108 = .ok (.iload_n 2, 1) := dk_28 (dk_at dksX4_cross_4 13 rfl rfl)
theorem dX4_cross_109 : decode cX4_cross 109 = .ok (.iconst 3, 1) := dk_6 (dk_at dksX4_cross_4 14 rfl rfl)
theorem dX4_cross_110 : decode cX4_cross 110 = .ok (.invokevirtual 165, 3) := dk_182 0 165 (dk_at dksX4_cross_4 15 rfl rfl)
theorem dX4_cross_113 : decode cX4_cross 113 = .ok (.ireturn, 1) := dk_172 (dk_at dksX4_cross_4 18 rfl rfl)
abbrev cX4_go : ByteArray := prog_13_method_62_code
def yX4_go : MethodName := ⟨RX4, "go", "(I)I"⟩
def dkwX4_go_2 : List UInt8 := [182, 0, 215, 28, 2, 130, 126, 184, 0, 229, 62, 42, 182, 0, 246, 29, 172]
abbrev dktX4_go_2 : List UInt8 := dkwX4_go_2 ++ []
def dkwX4_go_1 : List UInt8 := [17, 3, 231, 164, 0, 6, 16, 253, 172, 42, 182, 0, 209, 42, 182, 0, 215, 61, 42, 27, 182, 0, 251, 42]
abbrev dktX4_go_1 : List UInt8 := dkwX4_go_1 ++ dktX4_go_2
def dkwX4_go_0 : List UInt8 := [27, 133, 9, 20, 0, 249, 184, 0, 80, 154, 0, 5, 2, 172, 42, 180, 0, 7, 16, 54, 46, 27, 96]
abbrev dktX4_go_0 : List UInt8 := dkwX4_go_0 ++ dktX4_go_1
theorem dksX4_go_0 : cX4_go.data.toList.drop 0 = dktX4_go_0 := by decide +kernel
theorem dksX4_go_1 : cX4_go.data.toList.drop 23 = dktX4_go_1 := dk_seg dksX4_go_0 23 rfl rfl
theorem dksX4_go_2 : cX4_go.data.toList.drop 47 = dktX4_go_2 := dk_seg dksX4_go_1 24 rfl rfl
theorem dX4_go_0 : decode cX4_go 0 = .ok (.iload_n 1, 1) := dk_27 (dk_at dksX4_go_0 0 rfl rfl)
theorem dX4_go_1 : decode cX4_go 1 = .ok (.i2l, 1) := dk_133 (dk_at dksX4_go_0 1 rfl rfl)
theorem dX4_go_2 : decode cX4_go 2 = .ok (.lconst 0, 1) := dk_9 (dk_at dksX4_go_0 2 rfl rfl)
theorem dX4_go_3 : decode cX4_go 3 = .ok (.ldc2_w 249, 3) := dk_20 0 249 (dk_at dksX4_go_0 3 rfl rfl)
theorem dX4_go_6 : decode cX4_go 6 = .ok (.invokestatic 80, 3) := dk_184 0 80 (dk_at dksX4_go_0 6 rfl rfl)
theorem dX4_go_9 : decode cX4_go 9 = .ok (.ifCond .ne 5, 3) := dk_154 0 5 (dk_at dksX4_go_0 9 rfl rfl)
theorem dX4_go_12 : decode cX4_go 12 = .ok (.iconst (-1), 1) := dk_2 (dk_at dksX4_go_0 12 rfl rfl)
theorem dX4_go_13 : decode cX4_go 13 = .ok (.ireturn, 1) := dk_172 (dk_at dksX4_go_0 13 rfl rfl)
theorem dX4_go_14 : decode cX4_go 14 = .ok (.aload_n 0, 1) := dk_42 (dk_at dksX4_go_0 14 rfl rfl)
theorem dX4_go_15 : decode cX4_go 15 = .ok (.getfield 7, 3) := dk_180 0 7 (dk_at dksX4_go_0 15 rfl rfl)
theorem dX4_go_18 : decode cX4_go 18 = .ok (.bipush 54, 2) := dk_16 54 (dk_at dksX4_go_0 18 rfl rfl)
theorem dX4_go_20 : decode cX4_go 20 = .ok (.iaload, 1) := dk_46 (dk_at dksX4_go_0 20 rfl rfl)
theorem dX4_go_21 : decode cX4_go 21 = .ok (.iload_n 1, 1) := dk_27 (dk_at dksX4_go_0 21 rfl rfl)
theorem dX4_go_22 : decode cX4_go 22 = .ok (.iadd, 1) := dk_96 (dk_at dksX4_go_0 22 rfl rfl)
theorem dX4_go_23 : decode cX4_go 23 = .ok (.sipush 999, 3) := dk_17 3 231 (dk_at dksX4_go_1 0 rfl rfl)
theorem dX4_go_26 : decode cX4_go 26 = .ok (.if_icmp .le 6, 3) := dk_164 0 6 (dk_at dksX4_go_1 3 rfl rfl)
theorem dX4_go_29 : decode cX4_go 29 = .ok (.bipush (-3), 2) := dk_16 253 (dk_at dksX4_go_1 6 rfl rfl)
theorem dX4_go_31 : decode cX4_go 31 = .ok (.ireturn, 1) := dk_172 (dk_at dksX4_go_1 8 rfl rfl)
theorem dX4_go_32 : decode cX4_go 32 = .ok (.aload_n 0, 1) := dk_42 (dk_at dksX4_go_1 9 rfl rfl)
theorem dX4_go_33 : decode cX4_go 33 = .ok (.invokevirtual 209, 3) := dk_182 0 209 (dk_at dksX4_go_1 10 rfl rfl)
theorem dX4_go_36 : decode cX4_go 36 = .ok (.aload_n 0, 1) := dk_42 (dk_at dksX4_go_1 13 rfl rfl)
theorem dX4_go_37 : decode cX4_go 37 = .ok (.invokevirtual 215, 3) := dk_182 0 215 (dk_at dksX4_go_1 14 rfl rfl)
theorem dX4_go_40 : decode cX4_go 40 = .ok (.istore_n 2, 1) := dk_61 (dk_at dksX4_go_1 17 rfl rfl)
theorem dX4_go_41 : decode cX4_go 41 = .ok (.aload_n 0, 1) := dk_42 (dk_at dksX4_go_1 18 rfl rfl)
theorem dX4_go_42 : decode cX4_go 42 = .ok (.iload_n 1, 1) := dk_27 (dk_at dksX4_go_1 19 rfl rfl)
theorem dX4_go_43 : decode cX4_go 43 = .ok (.invokevirtual 251, 3) := dk_182 0 251 (dk_at dksX4_go_1 20 rfl rfl)
theorem dX4_go_46 : decode cX4_go 46 = .ok (.aload_n 0, 1) := dk_42 (dk_at dksX4_go_1 23 rfl rfl)
theorem dX4_go_47 : decode cX4_go 47 = .ok (.invokevirtual 215, 3) := dk_182 0 215 (dk_at dksX4_go_2 0 rfl rfl)
theorem dX4_go_50 : decode cX4_go 50 = .ok (.iload_n 2, 1) := dk_28 (dk_at dksX4_go_2 3 rfl rfl)
theorem dX4_go_51 : decode cX4_go 51 = .ok (.iconst (-1), 1) := dk_2 (dk_at dksX4_go_2 4 rfl rfl)
theorem dX4_go_52 : decode cX4_go 52 = .ok (.ixor, 1) := dk_130 (dk_at dksX4_go_2 5 rfl rfl)
theorem dX4_go_53 : decode cX4_go 53 = .ok (.iand, 1) := dk_126 (dk_at dksX4_go_2 6 rfl rfl)
theorem dX4_go_54 : decode cX4_go 54 = .ok (.invokestatic 229, 3) := dk_184 0 229 (dk_at dksX4_go_2 7 rfl rfl)
theorem dX4_go_57 : decode cX4_go 57 = .ok (.istore_n 3, 1) := dk_62 (dk_at dksX4_go_2 10 rfl rfl)
theorem dX4_go_58 : decode cX4_go 58 = .ok (.aload_n 0, 1) := dk_42 (dk_at dksX4_go_2 11 rfl rfl)
theorem dX4_go_59 : decode cX4_go 59 = .ok (.invokevirtual 246, 3) := dk_182 0 246 (dk_at dksX4_go_2 12 rfl rfl)
theorem dX4_go_62 : decode cX4_go 62 = .ok (.iload_n 3, 1) := dk_29 (dk_at dksX4_go_2 15 rfl rfl)
theorem dX4_go_63 : decode cX4_go 63 = .ok (.ireturn, 1) := dk_172 (dk_at dksX4_go_2 16 rfl rfl)
abbrev cX4_weeksGo : ByteArray := prog_13_method_46_code
def yX4_weeksGo : MethodName := ⟨RX4, "weeksGo", "(I)V"⟩
def dkwX4_weeksGo_0 : List UInt8 := [3, 61, 28, 27, 162, 0, 13, 42, 182, 0, 200, 132, 2, 1, 167, 255, 244, 177]
abbrev dktX4_weeksGo_0 : List UInt8 := dkwX4_weeksGo_0 ++ []
theorem dksX4_weeksGo_0 : cX4_weeksGo.data.toList.drop 0 = dktX4_weeksGo_0 := by decide +kernel
theorem dX4_weeksGo_0 : decode cX4_weeksGo 0 = .ok (.iconst 0, 1) := dk_3 (dk_at dksX4_weeksGo_0 0 rfl rfl)
theorem dX4_weeksGo_1 : decode cX4_weeksGo 1 = .ok (.istore_n 2, 1) := dk_61 (dk_at dksX4_weeksGo_0 1 rfl rfl)
theorem dX4_weeksGo_2 : decode cX4_weeksGo 2 = .ok (.iload_n 2, 1) := dk_28 (dk_at dksX4_weeksGo_0 2 rfl rfl)
theorem dX4_weeksGo_3 : decode cX4_weeksGo 3 = .ok (.iload_n 1, 1) := dk_27 (dk_at dksX4_weeksGo_0 3 rfl rfl)
theorem dX4_weeksGo_4 : decode cX4_weeksGo 4 = .ok (.if_icmp .ge 13, 3) := dk_162 0 13 (dk_at dksX4_weeksGo_0 4 rfl rfl)
theorem dX4_weeksGo_7 : decode cX4_weeksGo 7 = .ok (.aload_n 0, 1) := dk_42 (dk_at dksX4_weeksGo_0 7 rfl rfl)
theorem dX4_weeksGo_8 : decode cX4_weeksGo 8 = .ok (.invokevirtual 200, 3) := dk_182 0 200 (dk_at dksX4_weeksGo_0 8 rfl rfl)
theorem dX4_weeksGo_11 : decode cX4_weeksGo 11 = .ok (.iinc 2 1, 3) := dk_132 2 1 (dk_at dksX4_weeksGo_0 11 rfl rfl)
theorem dX4_weeksGo_14 : decode cX4_weeksGo 14 = .ok (.goto (-12), 3) := dk_167 255 244 (dk_at dksX4_weeksGo_0 14 rfl rfl)
theorem dX4_weeksGo_17 : decode cX4_weeksGo 17 = .ok (.return_, 1) := dk_177 (dk_at dksX4_weeksGo_0 17 rfl rfl)
abbrev cX4_weekGoes : ByteArray := prog_13_method_44_code
def yX4_weekGoes : MethodName := ⟨RX4, "weekGoes", "()V"⟩
def dkwX4_weekGoes_7 : List UInt8 := [167, 255, 182, 42, 180, 0, 13, 16, 54, 92, 46, 4, 96, 79, 177]
abbrev dktX4_weekGoes_7 : List UInt8 := dkwX4_weekGoes_7 ++ []
def dkwX4_weekGoes_6 : List UInt8 := [100, 62, 42, 28, 4, 29, 16, 99, 164, 0, 8, 16, 99, 167, 0, 4, 29, 182, 0, 187, 132, 2, 1]
abbrev dktX4_weekGoes_6 : List UInt8 := dkwX4_weekGoes_6 ++ dktX4_weekGoes_7
def dkwX4_weekGoes_5 : List UInt8 := [154, 0, 44, 42, 28, 182, 0, 172, 154, 0, 36, 42, 28, 4, 182, 0, 165, 42, 28, 182, 0, 197, 96, 4]
abbrev dktX4_weekGoes_5 : List UInt8 := dkwX4_weekGoes_5 ++ dktX4_weekGoes_6
def dkwX4_weekGoes_4 : List UInt8 := [162, 0, 72, 27, 28, 122, 4, 126, 4, 160, 0, 8, 42, 28, 182, 0, 194, 42, 28, 182, 0, 168]
abbrev dktX4_weekGoes_4 : List UInt8 := dkwX4_weekGoes_4 ++ dktX4_weekGoes_5
def dkwX4_weekGoes_3 : List UInt8 := [28, 120, 128, 60, 132, 3, 1, 167, 255, 191, 132, 2, 1, 167, 255, 175, 3, 61, 28, 42, 180, 0, 72]
abbrev dktX4_weekGoes_3 : List UInt8 := dkwX4_weekGoes_3 ++ dktX4_weekGoes_4
def dkwX4_weekGoes_2 : List UInt8 := [28, 5, 182, 0, 165, 160, 0, 15, 42, 29, 182, 0, 191, 153, 0, 7, 4, 167, 0, 4, 3, 184, 0, 154]
abbrev dktX4_weekGoes_2 : List UInt8 := dkwX4_weekGoes_2 ++ dktX4_weekGoes_3
def dkwX4_weekGoes_1 : List UInt8 := [28, 182, 0, 168, 154, 0, 40, 42, 28, 3, 182, 0, 165, 6, 159, 0, 30, 42, 29, 5, 182, 0, 165, 42]
abbrev dktX4_weekGoes_1 : List UInt8 := dkwX4_weekGoes_1 ++ dktX4_weekGoes_2
def dkwX4_weekGoes_0 : List UInt8 := [3, 60, 3, 61, 28, 42, 180, 0, 72, 162, 0, 79, 3, 62, 29, 42, 180, 0, 72, 162, 0, 63, 27, 42]
abbrev dktX4_weekGoes_0 : List UInt8 := dkwX4_weekGoes_0 ++ dktX4_weekGoes_1
theorem dksX4_weekGoes_0 : cX4_weekGoes.data.toList.drop 0 = dktX4_weekGoes_0 := by decide +kernel
theorem dksX4_weekGoes_1 : cX4_weekGoes.data.toList.drop 24 = dktX4_weekGoes_1 := dk_seg dksX4_weekGoes_0 24 rfl rfl
theorem dksX4_weekGoes_2 : cX4_weekGoes.data.toList.drop 48 = dktX4_weekGoes_2 := dk_seg dksX4_weekGoes_1 24 rfl rfl
theorem dksX4_weekGoes_3 : cX4_weekGoes.data.toList.drop 72 = dktX4_weekGoes_3 := dk_seg dksX4_weekGoes_2 24 rfl rfl
theorem dksX4_weekGoes_4 : cX4_weekGoes.data.toList.drop 95 = dktX4_weekGoes_4 := dk_seg dksX4_weekGoes_3 23 rfl rfl
theorem dksX4_weekGoes_5 : cX4_weekGoes.data.toList.drop 117 = dktX4_weekGoes_5 := dk_seg dksX4_weekGoes_4 22 rfl rfl
theorem dksX4_weekGoes_6 : cX4_weekGoes.data.toList.drop 141 = dktX4_weekGoes_6 := dk_seg dksX4_weekGoes_5 24 rfl rfl
theorem dksX4_weekGoes_7 : cX4_weekGoes.data.toList.drop 164 = dktX4_weekGoes_7 := dk_seg dksX4_weekGoes_6 23 rfl rfl
theorem dX4_weekGoes_0 : decode cX4_weekGoes 0 = .ok (.iconst 0, 1) := dk_3 (dk_at dksX4_weekGoes_0 0 rfl rfl)
theorem dX4_weekGoes_1 : decode cX4_weekGoes 1 = .ok (.istore_n 1, 1) := dk_60 (dk_at dksX4_weekGoes_0 1 rfl rfl)
theorem dX4_weekGoes_2 : decode cX4_weekGoes 2 = .ok (.iconst 0, 1) := dk_3 (dk_at dksX4_weekGoes_0 2 rfl rfl)
theorem dX4_weekGoes_3 : decode cX4_weekGoes 3 = .ok (.istore_n 2, 1) := dk_61 (dk_at dksX4_weekGoes_0 3 rfl rfl)
theorem dX4_weekGoes_4 : decode cX4_weekGoes 4 = .ok (.iload_n 2, 1) := dk_28 (dk_at dksX4_weekGoes_0 4 rfl rfl)
theorem dX4_weekGoes_5 : decode cX4_weekGoes 5 = .ok (.aload_n 0, 1) := dk_42 (dk_at dksX4_weekGoes_0 5 rfl rfl)
theorem dX4_weekGoes_6 : decode cX4_weekGoes 6 = .ok (.getfield 72, 3) := dk_180 0 72 (dk_at dksX4_weekGoes_0 6 rfl rfl)
theorem dX4_weekGoes_9 : decode cX4_weekGoes 9 = .ok (.if_icmp .ge 79, 3) := dk_162 0 79 (dk_at dksX4_weekGoes_0 9 rfl rfl)
theorem dX4_weekGoes_12 : decode cX4_weekGoes 12 = .ok (.iconst 0, 1) := dk_3 (dk_at dksX4_weekGoes_0 12 rfl rfl)
theorem dX4_weekGoes_13 : decode cX4_weekGoes 13 = .ok (.istore_n 3, 1) := dk_62 (dk_at dksX4_weekGoes_0 13 rfl rfl)
theorem dX4_weekGoes_14 : decode cX4_weekGoes 14 = .ok (.iload_n 3, 1) := dk_29 (dk_at dksX4_weekGoes_0 14 rfl rfl)
theorem dX4_weekGoes_15 : decode cX4_weekGoes 15 = .ok (.aload_n 0, 1) := dk_42 (dk_at dksX4_weekGoes_0 15 rfl rfl)
theorem dX4_weekGoes_16 : decode cX4_weekGoes 16 = .ok (.getfield 72, 3) := dk_180 0 72 (dk_at dksX4_weekGoes_0 16 rfl rfl)
theorem dX4_weekGoes_19 : decode cX4_weekGoes 19 = .ok (.if_icmp .ge 63, 3) := dk_162 0 63 (dk_at dksX4_weekGoes_0 19 rfl rfl)
theorem dX4_weekGoes_22 : decode cX4_weekGoes 22 = .ok (.iload_n 1, 1) := dk_27 (dk_at dksX4_weekGoes_0 22 rfl rfl)
theorem dX4_weekGoes_23 : decode cX4_weekGoes 23 = .ok (.aload_n 0, 1) := dk_42 (dk_at dksX4_weekGoes_0 23 rfl rfl)
theorem dX4_weekGoes_24 : decode cX4_weekGoes 24 = .ok (.iload_n 2, 1) := dk_28 (dk_at dksX4_weekGoes_1 0 rfl rfl)
theorem dX4_weekGoes_25 : decode cX4_weekGoes 25 = .ok (.invokevirtual 168, 3) := dk_182 0 168 (dk_at dksX4_weekGoes_1 1 rfl rfl)
theorem dX4_weekGoes_28 : decode cX4_weekGoes 28 = .ok (.ifCond .ne 40, 3) := dk_154 0 40 (dk_at dksX4_weekGoes_1 4 rfl rfl)
theorem dX4_weekGoes_31 : decode cX4_weekGoes 31 = .ok (.aload_n 0, 1) := dk_42 (dk_at dksX4_weekGoes_1 7 rfl rfl)
theorem dX4_weekGoes_32 : decode cX4_weekGoes 32 = .ok (.iload_n 2, 1) := dk_28 (dk_at dksX4_weekGoes_1 8 rfl rfl)
theorem dX4_weekGoes_33 : decode cX4_weekGoes 33 = .ok (.iconst 0, 1) := dk_3 (dk_at dksX4_weekGoes_1 9 rfl rfl)
theorem dX4_weekGoes_34 : decode cX4_weekGoes 34 = .ok (.invokevirtual 165, 3) := dk_182 0 165 (dk_at dksX4_weekGoes_1 10 rfl rfl)
theorem dX4_weekGoes_37 : decode cX4_weekGoes 37 = .ok (.iconst 3, 1) := dk_6 (dk_at dksX4_weekGoes_1 13 rfl rfl)
theorem dX4_weekGoes_38 : decode cX4_weekGoes 38 = .ok (.if_icmp .eq 30, 3) := dk_159 0 30 (dk_at dksX4_weekGoes_1 14 rfl rfl)
theorem dX4_weekGoes_41 : decode cX4_weekGoes 41 = .ok (.aload_n 0, 1) := dk_42 (dk_at dksX4_weekGoes_1 17 rfl rfl)
theorem dX4_weekGoes_42 : decode cX4_weekGoes 42 = .ok (.iload_n 3, 1) := dk_29 (dk_at dksX4_weekGoes_1 18 rfl rfl)
theorem dX4_weekGoes_43 : decode cX4_weekGoes 43 = .ok (.iconst 2, 1) := dk_5 (dk_at dksX4_weekGoes_1 19 rfl rfl)
theorem dX4_weekGoes_44 : decode cX4_weekGoes 44 = .ok (.invokevirtual 165, 3) := dk_182 0 165 (dk_at dksX4_weekGoes_1 20 rfl rfl)
theorem dX4_weekGoes_47 : decode cX4_weekGoes 47 = .ok (.aload_n 0, 1) := dk_42 (dk_at dksX4_weekGoes_1 23 rfl rfl)
theorem dX4_weekGoes_48 : decode cX4_weekGoes 48 = .ok (.iload_n 2, 1) := dk_28 (dk_at dksX4_weekGoes_2 0 rfl rfl)
theorem dX4_weekGoes_49 : decode cX4_weekGoes 49 = .ok (.iconst 2, 1) := dk_5 (dk_at dksX4_weekGoes_2 1 rfl rfl)
theorem dX4_weekGoes_50 : decode cX4_weekGoes 50 = .ok (.invokevirtual 165, 3) := dk_182 0 165 (dk_at dksX4_weekGoes_2 2 rfl rfl)
theorem dX4_weekGoes_53 : decode cX4_weekGoes 53 = .ok (.if_icmp .ne 15, 3) := dk_160 0 15 (dk_at dksX4_weekGoes_2 5 rfl rfl)
theorem dX4_weekGoes_56 : decode cX4_weekGoes 56 = .ok (.aload_n 0, 1) := dk_42 (dk_at dksX4_weekGoes_2 8 rfl rfl)
theorem dX4_weekGoes_57 : decode cX4_weekGoes 57 = .ok (.iload_n 3, 1) := dk_29 (dk_at dksX4_weekGoes_2 9 rfl rfl)
theorem dX4_weekGoes_58 : decode cX4_weekGoes 58 = .ok (.invokevirtual 191, 3) := dk_182 0 191 (dk_at dksX4_weekGoes_2 10 rfl rfl)
theorem dX4_weekGoes_61 : decode cX4_weekGoes 61 = .ok (.ifCond .eq 7, 3) := dk_153 0 7 (dk_at dksX4_weekGoes_2 13 rfl rfl)
theorem dX4_weekGoes_64 : decode cX4_weekGoes 64 = .ok (.iconst 1, 1) := dk_4 (dk_at dksX4_weekGoes_2 16 rfl rfl)
theorem dX4_weekGoes_65 : decode cX4_weekGoes 65 = .ok (.goto 4, 3) := dk_167 0 4 (dk_at dksX4_weekGoes_2 17 rfl rfl)
theorem dX4_weekGoes_68 : decode cX4_weekGoes 68 = .ok (.iconst 0, 1) := dk_3 (dk_at dksX4_weekGoes_2 20 rfl rfl)
theorem dX4_weekGoes_69 : decode cX4_weekGoes 69 = .ok (.invokestatic 154, 3) := dk_184 0 154 (dk_at dksX4_weekGoes_2 21 rfl rfl)
theorem dX4_weekGoes_72 : decode cX4_weekGoes 72 = .ok (.iload_n 2, 1) := dk_28 (dk_at dksX4_weekGoes_3 0 rfl rfl)
theorem dX4_weekGoes_73 : decode cX4_weekGoes 73 = .ok (.ishl, 1) := dk_120 (dk_at dksX4_weekGoes_3 1 rfl rfl)
theorem dX4_weekGoes_74 : decode cX4_weekGoes 74 = .ok (.ior, 1) := dk_128 (dk_at dksX4_weekGoes_3 2 rfl rfl)
theorem dX4_weekGoes_75 : decode cX4_weekGoes 75 = .ok (.istore_n 1, 1) := dk_60 (dk_at dksX4_weekGoes_3 3 rfl rfl)
theorem dX4_weekGoes_76 : decode cX4_weekGoes 76 = .ok (.iinc 3 1, 3) := dk_132 3 1 (dk_at dksX4_weekGoes_3 4 rfl rfl)
theorem dX4_weekGoes_79 : decode cX4_weekGoes 79 = .ok (.goto (-65), 3) := dk_167 255 191 (dk_at dksX4_weekGoes_3 7 rfl rfl)
theorem dX4_weekGoes_82 : decode cX4_weekGoes 82 = .ok (.iinc 2 1, 3) := dk_132 2 1 (dk_at dksX4_weekGoes_3 10 rfl rfl)
theorem dX4_weekGoes_85 : decode cX4_weekGoes 85 = .ok (.goto (-81), 3) := dk_167 255 175 (dk_at dksX4_weekGoes_3 13 rfl rfl)
theorem dX4_weekGoes_88 : decode cX4_weekGoes 88 = .ok (.iconst 0, 1) := dk_3 (dk_at dksX4_weekGoes_3 16 rfl rfl)
theorem dX4_weekGoes_89 : decode cX4_weekGoes 89 = .ok (.istore_n 2, 1) := dk_61 (dk_at dksX4_weekGoes_3 17 rfl rfl)
theorem dX4_weekGoes_90 : decode cX4_weekGoes 90 = .ok (.iload_n 2, 1) := dk_28 (dk_at dksX4_weekGoes_3 18 rfl rfl)
theorem dX4_weekGoes_91 : decode cX4_weekGoes 91 = .ok (.aload_n 0, 1) := dk_42 (dk_at dksX4_weekGoes_3 19 rfl rfl)
theorem dX4_weekGoes_92 : decode cX4_weekGoes 92 = .ok (.getfield 72, 3) := dk_180 0 72 (dk_at dksX4_weekGoes_3 20 rfl rfl)
theorem dX4_weekGoes_95 : decode cX4_weekGoes 95 = .ok (.if_icmp .ge 72, 3) := dk_162 0 72 (dk_at dksX4_weekGoes_4 0 rfl rfl)
theorem dX4_weekGoes_98 : decode cX4_weekGoes 98 = .ok (.iload_n 1, 1) := dk_27 (dk_at dksX4_weekGoes_4 3 rfl rfl)
theorem dX4_weekGoes_99 : decode cX4_weekGoes 99 = .ok (.iload_n 2, 1) := dk_28 (dk_at dksX4_weekGoes_4 4 rfl rfl)
theorem dX4_weekGoes_100 : decode cX4_weekGoes 100 = .ok (.ishr, 1) := dk_122 (dk_at dksX4_weekGoes_4 5 rfl rfl)
theorem dX4_weekGoes_101 : decode cX4_weekGoes 101 = .ok (.iconst 1, 1) := dk_4 (dk_at dksX4_weekGoes_4 6 rfl rfl)
theorem dX4_weekGoes_102 : decode cX4_weekGoes 102 = .ok (.iand, 1) := dk_126 (dk_at dksX4_weekGoes_4 7 rfl rfl)
theorem dX4_weekGoes_103 : decode cX4_weekGoes 103 = .ok (.iconst 1, 1) := dk_4 (dk_at dksX4_weekGoes_4 8 rfl rfl)
theorem dX4_weekGoes_104 : decode cX4_weekGoes 104 = .ok (.if_icmp .ne 8, 3) := dk_160 0 8 (dk_at dksX4_weekGoes_4 9 rfl rfl)
theorem dX4_weekGoes_107 : decode cX4_weekGoes 107 = .ok (.aload_n 0, 1) := dk_42 (dk_at dksX4_weekGoes_4 12 rfl rfl)
theorem dX4_weekGoes_108 : decode cX4_weekGoes 108 = .ok (.iload_n 2, 1) := dk_28 (dk_at dksX4_weekGoes_4 13 rfl rfl)
theorem dX4_weekGoes_109 : decode cX4_weekGoes 109 = .ok (.invokevirtual 194, 3) := dk_182 0 194 (dk_at dksX4_weekGoes_4 14 rfl rfl)
theorem dX4_weekGoes_112 : decode cX4_weekGoes 112 = .ok (.aload_n 0, 1) := dk_42 (dk_at dksX4_weekGoes_4 17 rfl rfl)
theorem dX4_weekGoes_113 : decode cX4_weekGoes 113 = .ok (.iload_n 2, 1) := dk_28 (dk_at dksX4_weekGoes_4 18 rfl rfl)
theorem dX4_weekGoes_114 : decode cX4_weekGoes 114 = .ok (.invokevirtual 168, 3) := dk_182 0 168 (dk_at dksX4_weekGoes_4 19 rfl rfl)
theorem dX4_weekGoes_117 : decode cX4_weekGoes 117 = .ok (.ifCond .ne 44, 3) := dk_154 0 44 (dk_at dksX4_weekGoes_5 0 rfl rfl)
theorem dX4_weekGoes_120 : decode cX4_weekGoes 120 = .ok (.aload_n 0, 1) := dk_42 (dk_at dksX4_weekGoes_5 3 rfl rfl)
theorem dX4_weekGoes_121 : decode cX4_weekGoes 121 = .ok (.iload_n 2, 1) := dk_28 (dk_at dksX4_weekGoes_5 4 rfl rfl)
theorem dX4_weekGoes_122 : decode cX4_weekGoes 122 = .ok (.invokevirtual 172, 3) := dk_182 0 172 (dk_at dksX4_weekGoes_5 5 rfl rfl)
theorem dX4_weekGoes_125 : decode cX4_weekGoes 125 = .ok (.ifCond .ne 36, 3) := dk_154 0 36 (dk_at dksX4_weekGoes_5 8 rfl rfl)
theorem dX4_weekGoes_128 : decode cX4_weekGoes 128 = .ok (.aload_n 0, 1) := dk_42 (dk_at dksX4_weekGoes_5 11 rfl rfl)
theorem dX4_weekGoes_129 : decode cX4_weekGoes 129 = .ok (.iload_n 2, 1) := dk_28 (dk_at dksX4_weekGoes_5 12 rfl rfl)
theorem dX4_weekGoes_130 : decode cX4_weekGoes 130 = .ok (.iconst 1, 1) := dk_4 (dk_at dksX4_weekGoes_5 13 rfl rfl)
theorem dX4_weekGoes_131 : decode cX4_weekGoes 131 = .ok (.invokevirtual 165, 3) := dk_182 0 165 (dk_at dksX4_weekGoes_5 14 rfl rfl)
theorem dX4_weekGoes_134 : decode cX4_weekGoes 134 = .ok (.aload_n 0, 1) := dk_42 (dk_at dksX4_weekGoes_5 17 rfl rfl)
theorem dX4_weekGoes_135 : decode cX4_weekGoes 135 = .ok (.iload_n 2, 1) := dk_28 (dk_at dksX4_weekGoes_5 18 rfl rfl)
theorem dX4_weekGoes_136 : decode cX4_weekGoes 136 = .ok (.invokevirtual 197, 3) := dk_182 0 197 (dk_at dksX4_weekGoes_5 19 rfl rfl)
theorem dX4_weekGoes_139 : decode cX4_weekGoes 139 = .ok (.iadd, 1) := dk_96 (dk_at dksX4_weekGoes_5 22 rfl rfl)
theorem dX4_weekGoes_140 : decode cX4_weekGoes 140 = .ok (.iconst 1, 1) := dk_4 (dk_at dksX4_weekGoes_5 23 rfl rfl)
theorem dX4_weekGoes_141 : decode cX4_weekGoes 141 = .ok (.isub, 1) := dk_100 (dk_at dksX4_weekGoes_6 0 rfl rfl)
theorem dX4_weekGoes_142 : decode cX4_weekGoes 142 = .ok (.istore_n 3, 1) := dk_62 (dk_at dksX4_weekGoes_6 1 rfl rfl)
theorem dX4_weekGoes_143 : decode cX4_weekGoes 143 = .ok (.aload_n 0, 1) := dk_42 (dk_at dksX4_weekGoes_6 2 rfl rfl)
theorem dX4_weekGoes_144 : decode cX4_weekGoes 144 = .ok (.iload_n 2, 1) := dk_28 (dk_at dksX4_weekGoes_6 3 rfl rfl)
theorem dX4_weekGoes_145 : decode cX4_weekGoes 145 = .ok (.iconst 1, 1) := dk_4 (dk_at dksX4_weekGoes_6 4 rfl rfl)
theorem dX4_weekGoes_146 : decode cX4_weekGoes 146 = .ok (.iload_n 3, 1) := dk_29 (dk_at dksX4_weekGoes_6 5 rfl rfl)
theorem dX4_weekGoes_147 : decode cX4_weekGoes 147 = .ok (.bipush 99, 2) := dk_16 99 (dk_at dksX4_weekGoes_6 6 rfl rfl)
theorem dX4_weekGoes_149 : decode cX4_weekGoes 149 = .ok (.if_icmp .le 8, 3) := dk_164 0 8 (dk_at dksX4_weekGoes_6 8 rfl rfl)
theorem dX4_weekGoes_152 : decode cX4_weekGoes 152 = .ok (.bipush 99, 2) := dk_16 99 (dk_at dksX4_weekGoes_6 11 rfl rfl)
theorem dX4_weekGoes_154 : decode cX4_weekGoes 154 = .ok (.goto 4, 3) := dk_167 0 4 (dk_at dksX4_weekGoes_6 13 rfl rfl)
theorem dX4_weekGoes_157 : decode cX4_weekGoes 157 = .ok (.iload_n 3, 1) := dk_29 (dk_at dksX4_weekGoes_6 16 rfl rfl)
theorem dX4_weekGoes_158 : decode cX4_weekGoes 158 = .ok (.invokevirtual 187, 3) := dk_182 0 187 (dk_at dksX4_weekGoes_6 17 rfl rfl)
theorem dX4_weekGoes_161 : decode cX4_weekGoes 161 = .ok (.iinc 2 1, 3) := dk_132 2 1 (dk_at dksX4_weekGoes_6 20 rfl rfl)
theorem dX4_weekGoes_164 : decode cX4_weekGoes 164 = .ok (.goto (-74), 3) := dk_167 255 182 (dk_at dksX4_weekGoes_7 0 rfl rfl)
theorem dX4_weekGoes_167 : decode cX4_weekGoes 167 = .ok (.aload_n 0, 1) := dk_42 (dk_at dksX4_weekGoes_7 3 rfl rfl)
theorem dX4_weekGoes_168 : decode cX4_weekGoes 168 = .ok (.getfield 13, 3) := dk_180 0 13 (dk_at dksX4_weekGoes_7 4 rfl rfl)
theorem dX4_weekGoes_171 : decode cX4_weekGoes 171 = .ok (.bipush 54, 2) := dk_16 54 (dk_at dksX4_weekGoes_7 7 rfl rfl)
theorem dX4_weekGoes_173 : decode cX4_weekGoes 173 = .ok (.dup2, 1) := dk_92 (dk_at dksX4_weekGoes_7 9 rfl rfl)
theorem dX4_weekGoes_174 : decode cX4_weekGoes 174 = .ok (.iaload, 1) := dk_46 (dk_at dksX4_weekGoes_7 10 rfl rfl)
theorem dX4_weekGoes_175 : decode cX4_weekGoes 175 = .ok (.iconst 1, 1) := dk_4 (dk_at dksX4_weekGoes_7 11 rfl rfl)
theorem dX4_weekGoes_176 : decode cX4_weekGoes 176 = .ok (.iadd, 1) := dk_96 (dk_at dksX4_weekGoes_7 12 rfl rfl)
theorem dX4_weekGoes_177 : decode cX4_weekGoes 177 = .ok (.iastore, 1) := dk_79 (dk_at dksX4_weekGoes_7 13 rfl rfl)
theorem dX4_weekGoes_178 : decode cX4_weekGoes 178 = .ok (.return_, 1) := dk_177 (dk_at dksX4_weekGoes_7 14 rfl rfl)
abbrev cX4_isWildOne : ByteArray := prog_13_method_41_code
def yX4_isWildOne : MethodName := ⟨RX4, "isWildOne", "(I)Z"⟩
def dkwX4_isWildOne_0 : List UInt8 := [42, 27, 3, 182, 0, 165, 6, 160, 0, 15, 42, 27, 182, 0, 172, 154, 0, 7, 4, 167, 0, 4, 3, 172]
abbrev dktX4_isWildOne_0 : List UInt8 := dkwX4_isWildOne_0 ++ []
theorem dksX4_isWildOne_0 : cX4_isWildOne.data.toList.drop 0 = dktX4_isWildOne_0 := by decide +kernel
theorem dX4_isWildOne_0 : decode cX4_isWildOne 0 = .ok (.aload_n 0, 1) := dk_42 (dk_at dksX4_isWildOne_0 0 rfl rfl)
theorem dX4_isWildOne_1 : decode cX4_isWildOne 1 = .ok (.iload_n 1, 1) := dk_27 (dk_at dksX4_isWildOne_0 1 rfl rfl)
theorem dX4_isWildOne_2 : decode cX4_isWildOne 2 = .ok (.iconst 0, 1) := dk_3 (dk_at dksX4_isWildOne_0 2 rfl rfl)
theorem dX4_isWildOne_3 : decode cX4_isWildOne 3 = .ok (.invokevirtual 165, 3) := dk_182 0 165 (dk_at dksX4_isWildOne_0 3 rfl rfl)
theorem dX4_isWildOne_6 : decode cX4_isWildOne 6 = .ok (.iconst 3, 1) := dk_6 (dk_at dksX4_isWildOne_0 6 rfl rfl)
theorem dX4_isWildOne_7 : decode cX4_isWildOne 7 = .ok (.if_icmp .ne 15, 3) := dk_160 0 15 (dk_at dksX4_isWildOne_0 7 rfl rfl)
theorem dX4_isWildOne_10 : decode cX4_isWildOne 10 = .ok (.aload_n 0, 1) := dk_42 (dk_at dksX4_isWildOne_0 10 rfl rfl)
theorem dX4_isWildOne_11 : decode cX4_isWildOne 11 = .ok (.iload_n 1, 1) := dk_27 (dk_at dksX4_isWildOne_0 11 rfl rfl)
theorem dX4_isWildOne_12 : decode cX4_isWildOne 12 = .ok (.invokevirtual 172, 3) := dk_182 0 172 (dk_at dksX4_isWildOne_0 12 rfl rfl)
theorem dX4_isWildOne_15 : decode cX4_isWildOne 15 = .ok (.ifCond .ne 7, 3) := dk_154 0 7 (dk_at dksX4_isWildOne_0 15 rfl rfl)
theorem dX4_isWildOne_18 : decode cX4_isWildOne 18 = .ok (.iconst 1, 1) := dk_4 (dk_at dksX4_isWildOne_0 18 rfl rfl)
theorem dX4_isWildOne_19 : decode cX4_isWildOne 19 = .ok (.goto 4, 3) := dk_167 0 4 (dk_at dksX4_isWildOne_0 19 rfl rfl)
theorem dX4_isWildOne_22 : decode cX4_isWildOne 22 = .ok (.iconst 0, 1) := dk_3 (dk_at dksX4_isWildOne_0 22 rfl rfl)
theorem dX4_isWildOne_23 : decode cX4_isWildOne 23 = .ok (.ireturn, 1) := dk_172 (dk_at dksX4_isWildOne_0 23 rfl rfl)
abbrev cX4_growthOf : ByteArray := prog_13_method_42_code
def yX4_growthOf : MethodName := ⟨RX4, "growthOf", "(I)I"⟩
def dkwX4_growthOf_4 : List UInt8 := [4, 167, 0, 4, 28, 172]
abbrev dktX4_growthOf_4 : List UInt8 := dkwX4_growthOf_4 ++ []
def dkwX4_growthOf_3 : List UInt8 := [159, 0, 8, 29, 6, 160, 0, 9, 5, 28, 104, 167, 0, 18, 29, 5, 160, 0, 12, 28, 4, 164, 0, 7]
abbrev dktX4_growthOf_3 : List UInt8 := dkwX4_growthOf_3 ++ dktX4_growthOf_4
def dkwX4_growthOf_2 : List UInt8 := [167, 0, 4, 3, 184, 0, 154, 96, 61, 132, 3, 1, 167, 255, 203, 42, 27, 3, 182, 0, 165, 62, 29, 4]
abbrev dktX4_growthOf_2 : List UInt8 := dkwX4_growthOf_2 ++ dktX4_growthOf_3
def dkwX4_growthOf_1 : List UInt8 := [184, 0, 132, 42, 180, 0, 13, 5, 42, 27, 5, 182, 0, 165, 104, 4, 96, 46, 160, 0, 7, 4]
abbrev dktX4_growthOf_1 : List UInt8 := dkwX4_growthOf_1 ++ dktX4_growthOf_2
def dkwX4_growthOf_0 : List UInt8 := [3, 61, 3, 62, 29, 42, 27, 6, 182, 0, 165, 162, 0, 49, 28, 42, 27, 7, 29, 96, 182, 0, 165]
abbrev dktX4_growthOf_0 : List UInt8 := dkwX4_growthOf_0 ++ dktX4_growthOf_1
theorem dksX4_growthOf_0 : cX4_growthOf.data.toList.drop 0 = dktX4_growthOf_0 := by decide +kernel
theorem dksX4_growthOf_1 : cX4_growthOf.data.toList.drop 23 = dktX4_growthOf_1 := dk_seg dksX4_growthOf_0 23 rfl rfl
theorem dksX4_growthOf_2 : cX4_growthOf.data.toList.drop 45 = dktX4_growthOf_2 := dk_seg dksX4_growthOf_1 22 rfl rfl
theorem dksX4_growthOf_3 : cX4_growthOf.data.toList.drop 69 = dktX4_growthOf_3 := dk_seg dksX4_growthOf_2 24 rfl rfl
theorem dksX4_growthOf_4 : cX4_growthOf.data.toList.drop 93 = dktX4_growthOf_4 := dk_seg dksX4_growthOf_3 24 rfl rfl
theorem dX4_growthOf_0 : decode cX4_growthOf 0 = .ok (.iconst 0, 1) := dk_3 (dk_at dksX4_growthOf_0 0 rfl rfl)
theorem dX4_growthOf_1 : decode cX4_growthOf 1 = .ok (.istore_n 2, 1) := dk_61 (dk_at dksX4_growthOf_0 1 rfl rfl)
theorem dX4_growthOf_2 : decode cX4_growthOf 2 = .ok (.iconst 0, 1) := dk_3 (dk_at dksX4_growthOf_0 2 rfl rfl)
theorem dX4_growthOf_3 : decode cX4_growthOf 3 = .ok (.istore_n 3, 1) := dk_62 (dk_at dksX4_growthOf_0 3 rfl rfl)
theorem dX4_growthOf_4 : decode cX4_growthOf 4 = .ok (.iload_n 3, 1) := dk_29 (dk_at dksX4_growthOf_0 4 rfl rfl)
theorem dX4_growthOf_5 : decode cX4_growthOf 5 = .ok (.aload_n 0, 1) := dk_42 (dk_at dksX4_growthOf_0 5 rfl rfl)
theorem dX4_growthOf_6 : decode cX4_growthOf 6 = .ok (.iload_n 1, 1) := dk_27 (dk_at dksX4_growthOf_0 6 rfl rfl)
theorem dX4_growthOf_7 : decode cX4_growthOf 7 = .ok (.iconst 3, 1) := dk_6 (dk_at dksX4_growthOf_0 7 rfl rfl)
theorem dX4_growthOf_8 : decode cX4_growthOf 8 = .ok (.invokevirtual 165, 3) := dk_182 0 165 (dk_at dksX4_growthOf_0 8 rfl rfl)
theorem dX4_growthOf_11 : decode cX4_growthOf 11 = .ok (.if_icmp .ge 49, 3) := dk_162 0 49 (dk_at dksX4_growthOf_0 11 rfl rfl)
theorem dX4_growthOf_14 : decode cX4_growthOf 14 = .ok (.iload_n 2, 1) := dk_28 (dk_at dksX4_growthOf_0 14 rfl rfl)
theorem dX4_growthOf_15 : decode cX4_growthOf 15 = .ok (.aload_n 0, 1) := dk_42 (dk_at dksX4_growthOf_0 15 rfl rfl)
theorem dX4_growthOf_16 : decode cX4_growthOf 16 = .ok (.iload_n 1, 1) := dk_27 (dk_at dksX4_growthOf_0 16 rfl rfl)
theorem dX4_growthOf_17 : decode cX4_growthOf 17 = .ok (.iconst 4, 1) := dk_7 (dk_at dksX4_growthOf_0 17 rfl rfl)
theorem dX4_growthOf_18 : decode cX4_growthOf 18 = .ok (.iload_n 3, 1) := dk_29 (dk_at dksX4_growthOf_0 18 rfl rfl)
theorem dX4_growthOf_19 : decode cX4_growthOf 19 = .ok (.iadd, 1) := dk_96 (dk_at dksX4_growthOf_0 19 rfl rfl)
theorem dX4_growthOf_20 : decode cX4_growthOf 20 = .ok (.invokevirtual 165, 3) := dk_182 0 165 (dk_at dksX4_growthOf_0 20 rfl rfl)
theorem dX4_growthOf_23 : decode cX4_growthOf 23 = .ok (.invokestatic 132, 3) := dk_184 0 132 (dk_at dksX4_growthOf_1 0 rfl rfl)
theorem dX4_growthOf_26 : decode cX4_growthOf 26 = .ok (.aload_n 0, 1) := dk_42 (dk_at dksX4_growthOf_1 3 rfl rfl)
theorem dX4_growthOf_27 : decode cX4_growthOf 27 = .ok (.getfield 13, 3) := dk_180 0 13 (dk_at dksX4_growthOf_1 4 rfl rfl)
theorem dX4_growthOf_30 : decode cX4_growthOf 30 = .ok (.iconst 2, 1) := dk_5 (dk_at dksX4_growthOf_1 7 rfl rfl)
theorem dX4_growthOf_31 : decode cX4_growthOf 31 = .ok (.aload_n 0, 1) := dk_42 (dk_at dksX4_growthOf_1 8 rfl rfl)
theorem dX4_growthOf_32 : decode cX4_growthOf 32 = .ok (.iload_n 1, 1) := dk_27 (dk_at dksX4_growthOf_1 9 rfl rfl)
theorem dX4_growthOf_33 : decode cX4_growthOf 33 = .ok (.iconst 2, 1) := dk_5 (dk_at dksX4_growthOf_1 10 rfl rfl)
theorem dX4_growthOf_34 : decode cX4_growthOf 34 = .ok (.invokevirtual 165, 3) := dk_182 0 165 (dk_at dksX4_growthOf_1 11 rfl rfl)
theorem dX4_growthOf_37 : decode cX4_growthOf 37 = .ok (.imul, 1) := dk_104 (dk_at dksX4_growthOf_1 14 rfl rfl)
theorem dX4_growthOf_38 : decode cX4_growthOf 38 = .ok (.iconst 1, 1) := dk_4 (dk_at dksX4_growthOf_1 15 rfl rfl)
theorem dX4_growthOf_39 : decode cX4_growthOf 39 = .ok (.iadd, 1) := dk_96 (dk_at dksX4_growthOf_1 16 rfl rfl)
theorem dX4_growthOf_40 : decode cX4_growthOf 40 = .ok (.iaload, 1) := dk_46 (dk_at dksX4_growthOf_1 17 rfl rfl)
theorem dX4_growthOf_41 : decode cX4_growthOf 41 = .ok (.if_icmp .ne 7, 3) := dk_160 0 7 (dk_at dksX4_growthOf_1 18 rfl rfl)
theorem dX4_growthOf_44 : decode cX4_growthOf 44 = .ok (.iconst 1, 1) := dk_4 (dk_at dksX4_growthOf_1 21 rfl rfl)
theorem dX4_growthOf_45 : decode cX4_growthOf 45 = .ok (.goto 4, 3) := dk_167 0 4 (dk_at dksX4_growthOf_2 0 rfl rfl)
theorem dX4_growthOf_48 : decode cX4_growthOf 48 = .ok (.iconst 0, 1) := dk_3 (dk_at dksX4_growthOf_2 3 rfl rfl)
theorem dX4_growthOf_49 : decode cX4_growthOf 49 = .ok (.invokestatic 154, 3) := dk_184 0 154 (dk_at dksX4_growthOf_2 4 rfl rfl)
theorem dX4_growthOf_52 : decode cX4_growthOf 52 = .ok (.iadd, 1) := dk_96 (dk_at dksX4_growthOf_2 7 rfl rfl)
theorem dX4_growthOf_53 : decode cX4_growthOf 53 = .ok (.istore_n 2, 1) := dk_61 (dk_at dksX4_growthOf_2 8 rfl rfl)
theorem dX4_growthOf_54 : decode cX4_growthOf 54 = .ok (.iinc 3 1, 3) := dk_132 3 1 (dk_at dksX4_growthOf_2 9 rfl rfl)
theorem dX4_growthOf_57 : decode cX4_growthOf 57 = .ok (.goto (-53), 3) := dk_167 255 203 (dk_at dksX4_growthOf_2 12 rfl rfl)
theorem dX4_growthOf_60 : decode cX4_growthOf 60 = .ok (.aload_n 0, 1) := dk_42 (dk_at dksX4_growthOf_2 15 rfl rfl)
theorem dX4_growthOf_61 : decode cX4_growthOf 61 = .ok (.iload_n 1, 1) := dk_27 (dk_at dksX4_growthOf_2 16 rfl rfl)
theorem dX4_growthOf_62 : decode cX4_growthOf 62 = .ok (.iconst 0, 1) := dk_3 (dk_at dksX4_growthOf_2 17 rfl rfl)
theorem dX4_growthOf_63 : decode cX4_growthOf 63 = .ok (.invokevirtual 165, 3) := dk_182 0 165 (dk_at dksX4_growthOf_2 18 rfl rfl)
theorem dX4_growthOf_66 : decode cX4_growthOf 66 = .ok (.istore_n 3, 1) := dk_62 (dk_at dksX4_growthOf_2 21 rfl rfl)
theorem dX4_growthOf_67 : decode cX4_growthOf 67 = .ok (.iload_n 3, 1) := dk_29 (dk_at dksX4_growthOf_2 22 rfl rfl)
theorem dX4_growthOf_68 : decode cX4_growthOf 68 = .ok (.iconst 1, 1) := dk_4 (dk_at dksX4_growthOf_2 23 rfl rfl)
theorem dX4_growthOf_69 : decode cX4_growthOf 69 = .ok (.if_icmp .eq 8, 3) := dk_159 0 8 (dk_at dksX4_growthOf_3 0 rfl rfl)
theorem dX4_growthOf_72 : decode cX4_growthOf 72 = .ok (.iload_n 3, 1) := dk_29 (dk_at dksX4_growthOf_3 3 rfl rfl)
theorem dX4_growthOf_73 : decode cX4_growthOf 73 = .ok (.iconst 3, 1) := dk_6 (dk_at dksX4_growthOf_3 4 rfl rfl)
theorem dX4_growthOf_74 : decode cX4_growthOf 74 = .ok (.if_icmp .ne 9, 3) := dk_160 0 9 (dk_at dksX4_growthOf_3 5 rfl rfl)
theorem dX4_growthOf_77 : decode cX4_growthOf 77 = .ok (.iconst 2, 1) := dk_5 (dk_at dksX4_growthOf_3 8 rfl rfl)
theorem dX4_growthOf_78 : decode cX4_growthOf 78 = .ok (.iload_n 2, 1) := dk_28 (dk_at dksX4_growthOf_3 9 rfl rfl)
theorem dX4_growthOf_79 : decode cX4_growthOf 79 = .ok (.imul, 1) := dk_104 (dk_at dksX4_growthOf_3 10 rfl rfl)
theorem dX4_growthOf_80 : decode cX4_growthOf 80 = .ok (.goto 18, 3) := dk_167 0 18 (dk_at dksX4_growthOf_3 11 rfl rfl)
theorem dX4_growthOf_83 : decode cX4_growthOf 83 = .ok (.iload_n 3, 1) := dk_29 (dk_at dksX4_growthOf_3 14 rfl rfl)
theorem dX4_growthOf_84 : decode cX4_growthOf 84 = .ok (.iconst 2, 1) := dk_5 (dk_at dksX4_growthOf_3 15 rfl rfl)
theorem dX4_growthOf_85 : decode cX4_growthOf 85 = .ok (.if_icmp .ne 12, 3) := dk_160 0 12 (dk_at dksX4_growthOf_3 16 rfl rfl)
theorem dX4_growthOf_88 : decode cX4_growthOf 88 = .ok (.iload_n 2, 1) := dk_28 (dk_at dksX4_growthOf_3 19 rfl rfl)
theorem dX4_growthOf_89 : decode cX4_growthOf 89 = .ok (.iconst 1, 1) := dk_4 (dk_at dksX4_growthOf_3 20 rfl rfl)
theorem dX4_growthOf_90 : decode cX4_growthOf 90 = .ok (.if_icmp .le 7, 3) := dk_164 0 7 (dk_at dksX4_growthOf_3 21 rfl rfl)
theorem dX4_growthOf_93 : decode cX4_growthOf 93 = .ok (.iconst 1, 1) := dk_4 (dk_at dksX4_growthOf_4 0 rfl rfl)
theorem dX4_growthOf_94 : decode cX4_growthOf 94 = .ok (.goto 4, 3) := dk_167 0 4 (dk_at dksX4_growthOf_4 1 rfl rfl)
theorem dX4_growthOf_97 : decode cX4_growthOf 97 = .ok (.iload_n 2, 1) := dk_28 (dk_at dksX4_growthOf_4 4 rfl rfl)
theorem dX4_growthOf_98 : decode cX4_growthOf 98 = .ok (.ireturn, 1) := dk_172 (dk_at dksX4_growthOf_4 5 rfl rfl)
abbrev cX4_ahead : ByteArray := prog_13_method_63_code
def yX4_ahead : MethodName := ⟨RX4, "ahead", "(III)I"⟩
def dkwX4_ahead_3 : List UInt8 := [27, 182, 0, 178, 172]
abbrev dktX4_ahead_3 : List UInt8 := dkwX4_ahead_3 ++ []
def dkwX4_ahead_2 : List UInt8 := [42, 27, 4, 182, 0, 165, 167, 0, 22, 29, 4, 160, 0, 12, 42, 27, 6, 182, 0, 165, 167, 0, 8, 42]
abbrev dktX4_ahead_2 : List UInt8 := dkwX4_ahead_2 ++ dktX4_ahead_3
def dkwX4_ahead_1 : List UInt8 := [20, 0, 221, 184, 0, 80, 154, 0, 5, 2, 172, 42, 182, 0, 209, 42, 28, 182, 0, 251, 29, 154, 0, 12]
abbrev dktX4_ahead_1 : List UInt8 := dkwX4_ahead_1 ++ dktX4_ahead_2
def dkwX4_ahead_0 : List UInt8 := [42, 27, 182, 0, 223, 153, 0, 27, 28, 133, 9, 20, 0, 249, 184, 0, 80, 153, 0, 15, 29, 133, 9]
abbrev dktX4_ahead_0 : List UInt8 := dkwX4_ahead_0 ++ dktX4_ahead_1
theorem dksX4_ahead_0 : cX4_ahead.data.toList.drop 0 = dktX4_ahead_0 := by decide +kernel
theorem dksX4_ahead_1 : cX4_ahead.data.toList.drop 23 = dktX4_ahead_1 := dk_seg dksX4_ahead_0 23 rfl rfl
theorem dksX4_ahead_2 : cX4_ahead.data.toList.drop 47 = dktX4_ahead_2 := dk_seg dksX4_ahead_1 24 rfl rfl
theorem dksX4_ahead_3 : cX4_ahead.data.toList.drop 71 = dktX4_ahead_3 := dk_seg dksX4_ahead_2 24 rfl rfl
theorem dX4_ahead_0 : decode cX4_ahead 0 = .ok (.aload_n 0, 1) := dk_42 (dk_at dksX4_ahead_0 0 rfl rfl)
theorem dX4_ahead_1 : decode cX4_ahead 1 = .ok (.iload_n 1, 1) := dk_27 (dk_at dksX4_ahead_0 1 rfl rfl)
theorem dX4_ahead_2 : decode cX4_ahead 2 = .ok (.invokevirtual 223, 3) := dk_182 0 223 (dk_at dksX4_ahead_0 2 rfl rfl)
theorem dX4_ahead_5 : decode cX4_ahead 5 = .ok (.ifCond .eq 27, 3) := dk_153 0 27 (dk_at dksX4_ahead_0 5 rfl rfl)
theorem dX4_ahead_8 : decode cX4_ahead 8 = .ok (.iload_n 2, 1) := dk_28 (dk_at dksX4_ahead_0 8 rfl rfl)
theorem dX4_ahead_9 : decode cX4_ahead 9 = .ok (.i2l, 1) := dk_133 (dk_at dksX4_ahead_0 9 rfl rfl)
theorem dX4_ahead_10 : decode cX4_ahead 10 = .ok (.lconst 0, 1) := dk_9 (dk_at dksX4_ahead_0 10 rfl rfl)
theorem dX4_ahead_11 : decode cX4_ahead 11 = .ok (.ldc2_w 249, 3) := dk_20 0 249 (dk_at dksX4_ahead_0 11 rfl rfl)
theorem dX4_ahead_14 : decode cX4_ahead 14 = .ok (.invokestatic 80, 3) := dk_184 0 80 (dk_at dksX4_ahead_0 14 rfl rfl)
theorem dX4_ahead_17 : decode cX4_ahead 17 = .ok (.ifCond .eq 15, 3) := dk_153 0 15 (dk_at dksX4_ahead_0 17 rfl rfl)
theorem dX4_ahead_20 : decode cX4_ahead 20 = .ok (.iload_n 3, 1) := dk_29 (dk_at dksX4_ahead_0 20 rfl rfl)
theorem dX4_ahead_21 : decode cX4_ahead 21 = .ok (.i2l, 1) := dk_133 (dk_at dksX4_ahead_0 21 rfl rfl)
theorem dX4_ahead_22 : decode cX4_ahead 22 = .ok (.lconst 0, 1) := dk_9 (dk_at dksX4_ahead_0 22 rfl rfl)
theorem dX4_ahead_23 : decode cX4_ahead 23 = .ok (.ldc2_w 221, 3) := dk_20 0 221 (dk_at dksX4_ahead_1 0 rfl rfl)
theorem dX4_ahead_26 : decode cX4_ahead 26 = .ok (.invokestatic 80, 3) := dk_184 0 80 (dk_at dksX4_ahead_1 3 rfl rfl)
theorem dX4_ahead_29 : decode cX4_ahead 29 = .ok (.ifCond .ne 5, 3) := dk_154 0 5 (dk_at dksX4_ahead_1 6 rfl rfl)
theorem dX4_ahead_32 : decode cX4_ahead 32 = .ok (.iconst (-1), 1) := dk_2 (dk_at dksX4_ahead_1 9 rfl rfl)
theorem dX4_ahead_33 : decode cX4_ahead 33 = .ok (.ireturn, 1) := dk_172 (dk_at dksX4_ahead_1 10 rfl rfl)
theorem dX4_ahead_34 : decode cX4_ahead 34 = .ok (.aload_n 0, 1) := dk_42 (dk_at dksX4_ahead_1 11 rfl rfl)
theorem dX4_ahead_35 : decode cX4_ahead 35 = .ok (.invokevirtual 209, 3) := dk_182 0 209 (dk_at dksX4_ahead_1 12 rfl rfl)
theorem dX4_ahead_38 : decode cX4_ahead 38 = .ok (.aload_n 0, 1) := dk_42 (dk_at dksX4_ahead_1 15 rfl rfl)
theorem dX4_ahead_39 : decode cX4_ahead 39 = .ok (.iload_n 2, 1) := dk_28 (dk_at dksX4_ahead_1 16 rfl rfl)
theorem dX4_ahead_40 : decode cX4_ahead 40 = .ok (.invokevirtual 251, 3) := dk_182 0 251 (dk_at dksX4_ahead_1 17 rfl rfl)
theorem dX4_ahead_43 : decode cX4_ahead 43 = .ok (.iload_n 3, 1) := dk_29 (dk_at dksX4_ahead_1 20 rfl rfl)
theorem dX4_ahead_44 : decode cX4_ahead 44 = .ok (.ifCond .ne 12, 3) := dk_154 0 12 (dk_at dksX4_ahead_1 21 rfl rfl)
theorem dX4_ahead_47 : decode cX4_ahead 47 = .ok (.aload_n 0, 1) := dk_42 (dk_at dksX4_ahead_2 0 rfl rfl)
theorem dX4_ahead_48 : decode cX4_ahead 48 = .ok (.iload_n 1, 1) := dk_27 (dk_at dksX4_ahead_2 1 rfl rfl)
theorem dX4_ahead_49 : decode cX4_ahead 49 = .ok (.iconst 1, 1) := dk_4 (dk_at dksX4_ahead_2 2 rfl rfl)
theorem dX4_ahead_50 : decode cX4_ahead 50 = .ok (.invokevirtual 165, 3) := dk_182 0 165 (dk_at dksX4_ahead_2 3 rfl rfl)
theorem dX4_ahead_53 : decode cX4_ahead 53 = .ok (.goto 22, 3) := dk_167 0 22 (dk_at dksX4_ahead_2 6 rfl rfl)
theorem dX4_ahead_56 : decode cX4_ahead 56 = .ok (.iload_n 3, 1) := dk_29 (dk_at dksX4_ahead_2 9 rfl rfl)
theorem dX4_ahead_57 : decode cX4_ahead 57 = .ok (.iconst 1, 1) := dk_4 (dk_at dksX4_ahead_2 10 rfl rfl)
theorem dX4_ahead_58 : decode cX4_ahead 58 = .ok (.if_icmp .ne 12, 3) := dk_160 0 12 (dk_at dksX4_ahead_2 11 rfl rfl)
theorem dX4_ahead_61 : decode cX4_ahead 61 = .ok (.aload_n 0, 1) := dk_42 (dk_at dksX4_ahead_2 14 rfl rfl)
theorem dX4_ahead_62 : decode cX4_ahead 62 = .ok (.iload_n 1, 1) := dk_27 (dk_at dksX4_ahead_2 15 rfl rfl)
theorem dX4_ahead_63 : decode cX4_ahead 63 = .ok (.iconst 3, 1) := dk_6 (dk_at dksX4_ahead_2 16 rfl rfl)
theorem dX4_ahead_64 : decode cX4_ahead 64 = .ok (.invokevirtual 165, 3) := dk_182 0 165 (dk_at dksX4_ahead_2 17 rfl rfl)
theorem dX4_ahead_67 : decode cX4_ahead 67 = .ok (.goto 8, 3) := dk_167 0 8 (dk_at dksX4_ahead_2 20 rfl rfl)
theorem dX4_ahead_70 : decode cX4_ahead 70 = .ok (.aload_n 0, 1) := dk_42 (dk_at dksX4_ahead_2 23 rfl rfl)
theorem dX4_ahead_71 : decode cX4_ahead 71 = .ok (.iload_n 1, 1) := dk_27 (dk_at dksX4_ahead_3 0 rfl rfl)
theorem dX4_ahead_72 : decode cX4_ahead 72 = .ok (.invokevirtual 178, 3) := dk_182 0 178 (dk_at dksX4_ahead_3 1 rfl rfl)
theorem dX4_ahead_75 : decode cX4_ahead 75 = .ok (.ireturn, 1) := dk_172 (dk_at dksX4_ahead_3 4 rfl rfl)
abbrev cX4_when : ByteArray := prog_13_method_64_code
def yX4_when : MethodName := ⟨RX4, "when", "(II)I"⟩
def dkwX4_when_2 : List UInt8 := [167, 255, 232, 16, 252, 172]
abbrev dktX4_when_2 : List UInt8 := dkwX4_when_2 ++ []
def dkwX4_when_1 : List UInt8 := [29, 16, 30, 163, 0, 24, 42, 27, 28, 182, 0, 254, 153, 0, 5, 29, 172, 42, 182, 0, 200, 132, 3, 1]
abbrev dktX4_when_1 : List UInt8 := dkwX4_when_1 ++ dktX4_when_2
def dkwX4_when_0 : List UInt8 := [42, 27, 182, 0, 223, 153, 0, 11, 42, 28, 182, 0, 226, 154, 0, 5, 2, 172, 42, 182, 0, 209, 3, 62]
abbrev dktX4_when_0 : List UInt8 := dkwX4_when_0 ++ dktX4_when_1
theorem dksX4_when_0 : cX4_when.data.toList.drop 0 = dktX4_when_0 := by decide +kernel
theorem dksX4_when_1 : cX4_when.data.toList.drop 24 = dktX4_when_1 := dk_seg dksX4_when_0 24 rfl rfl
theorem dksX4_when_2 : cX4_when.data.toList.drop 48 = dktX4_when_2 := dk_seg dksX4_when_1 24 rfl rfl
theorem dX4_when_0 : decode cX4_when 0 = .ok (.aload_n 0, 1) := dk_42 (dk_at dksX4_when_0 0 rfl rfl)
theorem dX4_when_1 : decode cX4_when 1 = .ok (.iload_n 1, 1) := dk_27 (dk_at dksX4_when_0 1 rfl rfl)
theorem dX4_when_2 : decode cX4_when 2 = .ok (.invokevirtual 223, 3) := dk_182 0 223 (dk_at dksX4_when_0 2 rfl rfl)
theorem dX4_when_5 : decode cX4_when 5 = .ok (.ifCond .eq 11, 3) := dk_153 0 11 (dk_at dksX4_when_0 5 rfl rfl)
theorem dX4_when_8 : decode cX4_when 8 = .ok (.aload_n 0, 1) := dk_42 (dk_at dksX4_when_0 8 rfl rfl)
theorem dX4_when_9 : decode cX4_when 9 = .ok (.iload_n 2, 1) := dk_28 (dk_at dksX4_when_0 9 rfl rfl)
theorem dX4_when_10 : decode cX4_when 10 = .ok (.invokevirtual 226, 3) := dk_182 0 226 (dk_at dksX4_when_0 10 rfl rfl)
theorem dX4_when_13 : decode cX4_when 13 = .ok (.ifCond .ne 5, 3) := dk_154 0 5 (dk_at dksX4_when_0 13 rfl rfl)
theorem dX4_when_16 : decode cX4_when 16 = .ok (.iconst (-1), 1) := dk_2 (dk_at dksX4_when_0 16 rfl rfl)
theorem dX4_when_17 : decode cX4_when 17 = .ok (.ireturn, 1) := dk_172 (dk_at dksX4_when_0 17 rfl rfl)
theorem dX4_when_18 : decode cX4_when 18 = .ok (.aload_n 0, 1) := dk_42 (dk_at dksX4_when_0 18 rfl rfl)
theorem dX4_when_19 : decode cX4_when 19 = .ok (.invokevirtual 209, 3) := dk_182 0 209 (dk_at dksX4_when_0 19 rfl rfl)
theorem dX4_when_22 : decode cX4_when 22 = .ok (.iconst 0, 1) := dk_3 (dk_at dksX4_when_0 22 rfl rfl)
theorem dX4_when_23 : decode cX4_when 23 = .ok (.istore_n 3, 1) := dk_62 (dk_at dksX4_when_0 23 rfl rfl)
theorem dX4_when_24 : decode cX4_when 24 = .ok (.iload_n 3, 1) := dk_29 (dk_at dksX4_when_1 0 rfl rfl)
theorem dX4_when_25 : decode cX4_when 25 = .ok (.bipush 30, 2) := dk_16 30 (dk_at dksX4_when_1 1 rfl rfl)
theorem dX4_when_27 : decode cX4_when 27 = .ok (.if_icmp .gt 24, 3) := dk_163 0 24 (dk_at dksX4_when_1 3 rfl rfl)
theorem dX4_when_30 : decode cX4_when 30 = .ok (.aload_n 0, 1) := dk_42 (dk_at dksX4_when_1 6 rfl rfl)
theorem dX4_when_31 : decode cX4_when 31 = .ok (.iload_n 1, 1) := dk_27 (dk_at dksX4_when_1 7 rfl rfl)
theorem dX4_when_32 : decode cX4_when 32 = .ok (.iload_n 2, 1) := dk_28 (dk_at dksX4_when_1 8 rfl rfl)
theorem dX4_when_33 : decode cX4_when 33 = .ok (.invokevirtual 254, 3) := dk_182 0 254 (dk_at dksX4_when_1 9 rfl rfl)
theorem dX4_when_36 : decode cX4_when 36 = .ok (.ifCond .eq 5, 3) := dk_153 0 5 (dk_at dksX4_when_1 12 rfl rfl)
theorem dX4_when_39 : decode cX4_when 39 = .ok (.iload_n 3, 1) := dk_29 (dk_at dksX4_when_1 15 rfl rfl)
theorem dX4_when_40 : decode cX4_when 40 = .ok (.ireturn, 1) := dk_172 (dk_at dksX4_when_1 16 rfl rfl)
theorem dX4_when_41 : decode cX4_when 41 = .ok (.aload_n 0, 1) := dk_42 (dk_at dksX4_when_1 17 rfl rfl)
theorem dX4_when_42 : decode cX4_when 42 = .ok (.invokevirtual 200, 3) := dk_182 0 200 (dk_at dksX4_when_1 18 rfl rfl)
theorem dX4_when_45 : decode cX4_when 45 = .ok (.iinc 3 1, 3) := dk_132 3 1 (dk_at dksX4_when_1 21 rfl rfl)
theorem dX4_when_48 : decode cX4_when 48 = .ok (.goto (-24), 3) := dk_167 255 232 (dk_at dksX4_when_2 0 rfl rfl)
theorem dX4_when_51 : decode cX4_when 51 = .ok (.bipush (-4), 2) := dk_16 252 (dk_at dksX4_when_2 3 rfl rfl)
theorem dX4_when_53 : decode cX4_when 53 = .ok (.ireturn, 1) := dk_172 (dk_at dksX4_when_2 5 rfl rfl)
abbrev cX4_doesMeet : ByteArray := prog_13_method_49_code
def yX4_doesMeet : MethodName := ⟨RX4, "doesMeet", "(II)Z"⟩
def dkwX4_doesMeet_2 : List UInt8 := [167, 0, 4, 3, 172]
abbrev dktX4_doesMeet_2 : List UInt8 := dkwX4_doesMeet_2 ++ []
def dkwX4_doesMeet_1 : List UInt8 := [180, 0, 20, 16, 8, 28, 104, 16, 6, 96, 46, 161, 0, 16, 42, 27, 28, 182, 0, 206, 153, 0, 7, 4]
abbrev dktX4_doesMeet_1 : List UInt8 := dkwX4_doesMeet_1 ++ dktX4_doesMeet_2
def dkwX4_doesMeet_0 : List UInt8 := [42, 28, 182, 0, 203, 153, 0, 44, 42, 27, 182, 0, 168, 154, 0, 36, 42, 27, 182, 0, 178, 42]
abbrev dktX4_doesMeet_0 : List UInt8 := dkwX4_doesMeet_0 ++ dktX4_doesMeet_1
theorem dksX4_doesMeet_0 : cX4_doesMeet.data.toList.drop 0 = dktX4_doesMeet_0 := by decide +kernel
theorem dksX4_doesMeet_1 : cX4_doesMeet.data.toList.drop 22 = dktX4_doesMeet_1 := dk_seg dksX4_doesMeet_0 22 rfl rfl
theorem dksX4_doesMeet_2 : cX4_doesMeet.data.toList.drop 46 = dktX4_doesMeet_2 := dk_seg dksX4_doesMeet_1 24 rfl rfl
theorem dX4_doesMeet_0 : decode cX4_doesMeet 0 = .ok (.aload_n 0, 1) := dk_42 (dk_at dksX4_doesMeet_0 0 rfl rfl)
theorem dX4_doesMeet_1 : decode cX4_doesMeet 1 = .ok (.iload_n 2, 1) := dk_28 (dk_at dksX4_doesMeet_0 1 rfl rfl)
theorem dX4_doesMeet_2 : decode cX4_doesMeet 2 = .ok (.invokevirtual 203, 3) := dk_182 0 203 (dk_at dksX4_doesMeet_0 2 rfl rfl)
theorem dX4_doesMeet_5 : decode cX4_doesMeet 5 = .ok (.ifCond .eq 44, 3) := dk_153 0 44 (dk_at dksX4_doesMeet_0 5 rfl rfl)
theorem dX4_doesMeet_8 : decode cX4_doesMeet 8 = .ok (.aload_n 0, 1) := dk_42 (dk_at dksX4_doesMeet_0 8 rfl rfl)
theorem dX4_doesMeet_9 : decode cX4_doesMeet 9 = .ok (.iload_n 1, 1) := dk_27 (dk_at dksX4_doesMeet_0 9 rfl rfl)
theorem dX4_doesMeet_10 : decode cX4_doesMeet 10 = .ok (.invokevirtual 168, 3) := dk_182 0 168 (dk_at dksX4_doesMeet_0 10 rfl rfl)
theorem dX4_doesMeet_13 : decode cX4_doesMeet 13 = .ok (.ifCond .ne 36, 3) := dk_154 0 36 (dk_at dksX4_doesMeet_0 13 rfl rfl)
theorem dX4_doesMeet_16 : decode cX4_doesMeet 16 = .ok (.aload_n 0, 1) := dk_42 (dk_at dksX4_doesMeet_0 16 rfl rfl)
theorem dX4_doesMeet_17 : decode cX4_doesMeet 17 = .ok (.iload_n 1, 1) := dk_27 (dk_at dksX4_doesMeet_0 17 rfl rfl)
theorem dX4_doesMeet_18 : decode cX4_doesMeet 18 = .ok (.invokevirtual 178, 3) := dk_182 0 178 (dk_at dksX4_doesMeet_0 18 rfl rfl)
theorem dX4_doesMeet_21 : decode cX4_doesMeet 21 = .ok (.aload_n 0, 1) := dk_42 (dk_at dksX4_doesMeet_0 21 rfl rfl)
theorem dX4_doesMeet_22 : decode cX4_doesMeet 22 = .ok (.getfield 20, 3) := dk_180 0 20 (dk_at dksX4_doesMeet_1 0 rfl rfl)
theorem dX4_doesMeet_25 : decode cX4_doesMeet 25 = .ok (.bipush 8, 2) := dk_16 8 (dk_at dksX4_doesMeet_1 3 rfl rfl)
theorem dX4_doesMeet_27 : decode cX4_doesMeet 27 = .ok (.iload_n 2, 1) := dk_28 (dk_at dksX4_doesMeet_1 5 rfl rfl)
theorem dX4_doesMeet_28 : decode cX4_doesMeet 28 = .ok (.imul, 1) := dk_104 (dk_at dksX4_doesMeet_1 6 rfl rfl)
theorem dX4_doesMeet_29 : decode cX4_doesMeet 29 = .ok (.bipush 6, 2) := dk_16 6 (dk_at dksX4_doesMeet_1 7 rfl rfl)
theorem dX4_doesMeet_31 : decode cX4_doesMeet 31 = .ok (.iadd, 1) := dk_96 (dk_at dksX4_doesMeet_1 9 rfl rfl)
theorem dX4_doesMeet_32 : decode cX4_doesMeet 32 = .ok (.iaload, 1) := dk_46 (dk_at dksX4_doesMeet_1 10 rfl rfl)
theorem dX4_doesMeet_33 : decode cX4_doesMeet 33 = .ok (.if_icmp .lt 16, 3) := dk_161 0 16 (dk_at dksX4_doesMeet_1 11 rfl rfl)
theorem dX4_doesMeet_36 : decode cX4_doesMeet 36 = .ok (.aload_n 0, 1) := dk_42 (dk_at dksX4_doesMeet_1 14 rfl rfl)
theorem dX4_doesMeet_37 : decode cX4_doesMeet 37 = .ok (.iload_n 1, 1) := dk_27 (dk_at dksX4_doesMeet_1 15 rfl rfl)
theorem dX4_doesMeet_38 : decode cX4_doesMeet 38 = .ok (.iload_n 2, 1) := dk_28 (dk_at dksX4_doesMeet_1 16 rfl rfl)
theorem dX4_doesMeet_39 : decode cX4_doesMeet 39 = .ok (.invokevirtual 206, 3) := dk_182 0 206 (dk_at dksX4_doesMeet_1 17 rfl rfl)
theorem dX4_doesMeet_42 : decode cX4_doesMeet 42 = .ok (.ifCond .eq 7, 3) := dk_153 0 7 (dk_at dksX4_doesMeet_1 20 rfl rfl)
theorem dX4_doesMeet_45 : decode cX4_doesMeet 45 = .ok (.iconst 1, 1) := dk_4 (dk_at dksX4_doesMeet_1 23 rfl rfl)
theorem dX4_doesMeet_46 : decode cX4_doesMeet 46 = .ok (.goto 4, 3) := dk_167 0 4 (dk_at dksX4_doesMeet_2 0 rfl rfl)
theorem dX4_doesMeet_49 : decode cX4_doesMeet 49 = .ok (.iconst 0, 1) := dk_3 (dk_at dksX4_doesMeet_2 3 rfl rfl)
theorem dX4_doesMeet_50 : decode cX4_doesMeet 50 = .ok (.ireturn, 1) := dk_172 (dk_at dksX4_doesMeet_2 4 rfl rfl)
abbrev cX4_isOpen : ByteArray := prog_13_method_48_code
def yX4_isOpen : MethodName := ⟨RX4, "isOpen", "(I)Z"⟩
def dkwX4_isOpen_0 : List UInt8 := [42, 180, 0, 13, 16, 53, 46, 27, 122, 4, 126, 154, 0, 7, 4, 167, 0, 4, 3, 172]
abbrev dktX4_isOpen_0 : List UInt8 := dkwX4_isOpen_0 ++ []
theorem dksX4_isOpen_0 : cX4_isOpen.data.toList.drop 0 = dktX4_isOpen_0 := by decide +kernel
theorem dX4_isOpen_0 : decode cX4_isOpen 0 = .ok (.aload_n 0, 1) := dk_42 (dk_at dksX4_isOpen_0 0 rfl rfl)
theorem dX4_isOpen_1 : decode cX4_isOpen 1 = .ok (.getfield 13, 3) := dk_180 0 13 (dk_at dksX4_isOpen_0 1 rfl rfl)
theorem dX4_isOpen_4 : decode cX4_isOpen 4 = .ok (.bipush 53, 2) := dk_16 53 (dk_at dksX4_isOpen_0 4 rfl rfl)
theorem dX4_isOpen_6 : decode cX4_isOpen 6 = .ok (.iaload, 1) := dk_46 (dk_at dksX4_isOpen_0 6 rfl rfl)
theorem dX4_isOpen_7 : decode cX4_isOpen 7 = .ok (.iload_n 1, 1) := dk_27 (dk_at dksX4_isOpen_0 7 rfl rfl)
theorem dX4_isOpen_8 : decode cX4_isOpen 8 = .ok (.ishr, 1) := dk_122 (dk_at dksX4_isOpen_0 8 rfl rfl)
theorem dX4_isOpen_9 : decode cX4_isOpen 9 = .ok (.iconst 1, 1) := dk_4 (dk_at dksX4_isOpen_0 9 rfl rfl)
theorem dX4_isOpen_10 : decode cX4_isOpen 10 = .ok (.iand, 1) := dk_126 (dk_at dksX4_isOpen_0 10 rfl rfl)
theorem dX4_isOpen_11 : decode cX4_isOpen 11 = .ok (.ifCond .ne 7, 3) := dk_154 0 7 (dk_at dksX4_isOpen_0 11 rfl rfl)
theorem dX4_isOpen_14 : decode cX4_isOpen 14 = .ok (.iconst 1, 1) := dk_4 (dk_at dksX4_isOpen_0 14 rfl rfl)
theorem dX4_isOpen_15 : decode cX4_isOpen 15 = .ok (.goto 4, 3) := dk_167 0 4 (dk_at dksX4_isOpen_0 15 rfl rfl)
theorem dX4_isOpen_18 : decode cX4_isOpen 18 = .ok (.iconst 0, 1) := dk_3 (dk_at dksX4_isOpen_0 18 rfl rfl)
theorem dX4_isOpen_19 : decode cX4_isOpen 19 = .ok (.ireturn, 1) := dk_172 (dk_at dksX4_isOpen_0 19 rfl rfl)
abbrev cX4_endsSo : ByteArray := prog_13_method_47_code
def yX4_endsSo : MethodName := ⟨RX4, "endsSo", "(II)Z"⟩
def dkwX4_endsSo_3 : List UInt8 := [21, 5, 96, 46, 160, 0, 7, 4, 167, 0, 4, 3, 54, 4, 132, 5, 1, 167, 255, 200, 21, 4, 172]
abbrev dktX4_endsSo_3 : List UInt8 := dkwX4_endsSo_3 ++ []
def dkwX4_endsSo_2 : List UInt8 := [27, 6, 182, 0, 165, 96, 29, 100, 21, 5, 96, 182, 0, 165, 42, 180, 0, 20, 16, 8, 28, 104, 4, 96]
abbrev dktX4_endsSo_2 : List UInt8 := dkwX4_endsSo_2 ++ dktX4_endsSo_3
def dkwX4_endsSo_1 : List UInt8 := [167, 0, 4, 3, 54, 4, 3, 54, 5, 21, 5, 29, 162, 0, 56, 21, 4, 153, 0, 51, 42, 27, 7, 42]
abbrev dktX4_endsSo_1 : List UInt8 := dkwX4_endsSo_1 ++ dktX4_endsSo_2
def dkwX4_endsSo_0 : List UInt8 := [42, 180, 0, 20, 16, 8, 28, 104, 3, 96, 46, 62, 29, 42, 27, 6, 182, 0, 165, 163, 0, 7, 4]
abbrev dktX4_endsSo_0 : List UInt8 := dkwX4_endsSo_0 ++ dktX4_endsSo_1
theorem dksX4_endsSo_0 : cX4_endsSo.data.toList.drop 0 = dktX4_endsSo_0 := by decide +kernel
theorem dksX4_endsSo_1 : cX4_endsSo.data.toList.drop 23 = dktX4_endsSo_1 := dk_seg dksX4_endsSo_0 23 rfl rfl
theorem dksX4_endsSo_2 : cX4_endsSo.data.toList.drop 47 = dktX4_endsSo_2 := dk_seg dksX4_endsSo_1 24 rfl rfl
theorem dksX4_endsSo_3 : cX4_endsSo.data.toList.drop 71 = dktX4_endsSo_3 := dk_seg dksX4_endsSo_2 24 rfl rfl
theorem dX4_endsSo_0 : decode cX4_endsSo 0 = .ok (.aload_n 0, 1) := dk_42 (dk_at dksX4_endsSo_0 0 rfl rfl)
theorem dX4_endsSo_1 : decode cX4_endsSo 1 = .ok (.getfield 20, 3) := dk_180 0 20 (dk_at dksX4_endsSo_0 1 rfl rfl)
theorem dX4_endsSo_4 : decode cX4_endsSo 4 = .ok (.bipush 8, 2) := dk_16 8 (dk_at dksX4_endsSo_0 4 rfl rfl)
theorem dX4_endsSo_6 : decode cX4_endsSo 6 = .ok (.iload_n 2, 1) := dk_28 (dk_at dksX4_endsSo_0 6 rfl rfl)
theorem dX4_endsSo_7 : decode cX4_endsSo 7 = .ok (.imul, 1) := dk_104 (dk_at dksX4_endsSo_0 7 rfl rfl)
theorem dX4_endsSo_8 : decode cX4_endsSo 8 = .ok (.iconst 0, 1) := dk_3 (dk_at dksX4_endsSo_0 8 rfl rfl)
theorem dX4_endsSo_9 : decode cX4_endsSo 9 = .ok (.iadd, 1) := dk_96 (dk_at dksX4_endsSo_0 9 rfl rfl)
theorem dX4_endsSo_10 : decode cX4_endsSo 10 = .ok (.iaload, 1) := dk_46 (dk_at dksX4_endsSo_0 10 rfl rfl)
theorem dX4_endsSo_11 : decode cX4_endsSo 11 = .ok (.istore_n 3, 1) := dk_62 (dk_at dksX4_endsSo_0 11 rfl rfl)
theorem dX4_endsSo_12 : decode cX4_endsSo 12 = .ok (.iload_n 3, 1) := dk_29 (dk_at dksX4_endsSo_0 12 rfl rfl)
theorem dX4_endsSo_13 : decode cX4_endsSo 13 = .ok (.aload_n 0, 1) := dk_42 (dk_at dksX4_endsSo_0 13 rfl rfl)
theorem dX4_endsSo_14 : decode cX4_endsSo 14 = .ok (.iload_n 1, 1) := dk_27 (dk_at dksX4_endsSo_0 14 rfl rfl)
theorem dX4_endsSo_15 : decode cX4_endsSo 15 = .ok (.iconst 3, 1) := dk_6 (dk_at dksX4_endsSo_0 15 rfl rfl)
theorem dX4_endsSo_16 : decode cX4_endsSo 16 = .ok (.invokevirtual 165, 3) := dk_182 0 165 (dk_at dksX4_endsSo_0 16 rfl rfl)
theorem dX4_endsSo_19 : decode cX4_endsSo 19 = .ok (.if_icmp .gt 7, 3) := dk_163 0 7 (dk_at dksX4_endsSo_0 19 rfl rfl)
theorem dX4_endsSo_22 : decode cX4_endsSo 22 = .ok (.iconst 1, 1) := dk_4 (dk_at dksX4_endsSo_0 22 rfl rfl)
theorem dX4_endsSo_23 : decode cX4_endsSo 23 = .ok (.goto 4, 3) := dk_167 0 4 (dk_at dksX4_endsSo_1 0 rfl rfl)
theorem dX4_endsSo_26 : decode cX4_endsSo 26 = .ok (.iconst 0, 1) := dk_3 (dk_at dksX4_endsSo_1 3 rfl rfl)
theorem dX4_endsSo_27 : decode cX4_endsSo 27 = .ok (.istore 4, 2) := dk_54 4 (dk_at dksX4_endsSo_1 4 rfl rfl)
theorem dX4_endsSo_29 : decode cX4_endsSo 29 = .ok (.iconst 0, 1) := dk_3 (dk_at dksX4_endsSo_1 6 rfl rfl)
theorem dX4_endsSo_30 : decode cX4_endsSo 30 = .ok (.istore 5, 2) := dk_54 5 (dk_at dksX4_endsSo_1 7 rfl rfl)
theorem dX4_endsSo_32 : decode cX4_endsSo 32 = .ok (.iload 5, 2) := dk_21 5 (dk_at dksX4_endsSo_1 9 rfl rfl)
theorem dX4_endsSo_34 : decode cX4_endsSo 34 = .ok (.iload_n 3, 1) := dk_29 (dk_at dksX4_endsSo_1 11 rfl rfl)
theorem dX4_endsSo_35 : decode cX4_endsSo 35 = .ok (.if_icmp .ge 56, 3) := dk_162 0 56 (dk_at dksX4_endsSo_1 12 rfl rfl)
theorem dX4_endsSo_38 : decode cX4_endsSo 38 = .ok (.iload 4, 2) := dk_21 4 (dk_at dksX4_endsSo_1 15 rfl rfl)
theorem dX4_endsSo_40 : decode cX4_endsSo 40 = .ok (.ifCond .eq 51, 3) := dk_153 0 51 (dk_at dksX4_endsSo_1 17 rfl rfl)
theorem dX4_endsSo_43 : decode cX4_endsSo 43 = .ok (.aload_n 0, 1) := dk_42 (dk_at dksX4_endsSo_1 20 rfl rfl)
theorem dX4_endsSo_44 : decode cX4_endsSo 44 = .ok (.iload_n 1, 1) := dk_27 (dk_at dksX4_endsSo_1 21 rfl rfl)
theorem dX4_endsSo_45 : decode cX4_endsSo 45 = .ok (.iconst 4, 1) := dk_7 (dk_at dksX4_endsSo_1 22 rfl rfl)
theorem dX4_endsSo_46 : decode cX4_endsSo 46 = .ok (.aload_n 0, 1) := dk_42 (dk_at dksX4_endsSo_1 23 rfl rfl)
theorem dX4_endsSo_47 : decode cX4_endsSo 47 = .ok (.iload_n 1, 1) := dk_27 (dk_at dksX4_endsSo_2 0 rfl rfl)
theorem dX4_endsSo_48 : decode cX4_endsSo 48 = .ok (.iconst 3, 1) := dk_6 (dk_at dksX4_endsSo_2 1 rfl rfl)
theorem dX4_endsSo_49 : decode cX4_endsSo 49 = .ok (.invokevirtual 165, 3) := dk_182 0 165 (dk_at dksX4_endsSo_2 2 rfl rfl)
theorem dX4_endsSo_52 : decode cX4_endsSo 52 = .ok (.iadd, 1) := dk_96 (dk_at dksX4_endsSo_2 5 rfl rfl)
theorem dX4_endsSo_53 : decode cX4_endsSo 53 = .ok (.iload_n 3, 1) := dk_29 (dk_at dksX4_endsSo_2 6 rfl rfl)
theorem dX4_endsSo_54 : decode cX4_endsSo 54 = .ok (.isub, 1) := dk_100 (dk_at dksX4_endsSo_2 7 rfl rfl)
theorem dX4_endsSo_55 : decode cX4_endsSo 55 = .ok (.iload 5, 2) := dk_21 5 (dk_at dksX4_endsSo_2 8 rfl rfl)
theorem dX4_endsSo_57 : decode cX4_endsSo 57 = .ok (.iadd, 1) := dk_96 (dk_at dksX4_endsSo_2 10 rfl rfl)
theorem dX4_endsSo_58 : decode cX4_endsSo 58 = .ok (.invokevirtual 165, 3) := dk_182 0 165 (dk_at dksX4_endsSo_2 11 rfl rfl)
theorem dX4_endsSo_61 : decode cX4_endsSo 61 = .ok (.aload_n 0, 1) := dk_42 (dk_at dksX4_endsSo_2 14 rfl rfl)
theorem dX4_endsSo_62 : decode cX4_endsSo 62 = .ok (.getfield 20, 3) := dk_180 0 20 (dk_at dksX4_endsSo_2 15 rfl rfl)
theorem dX4_endsSo_65 : decode cX4_endsSo 65 = .ok (.bipush 8, 2) := dk_16 8 (dk_at dksX4_endsSo_2 18 rfl rfl)
theorem dX4_endsSo_67 : decode cX4_endsSo 67 = .ok (.iload_n 2, 1) := dk_28 (dk_at dksX4_endsSo_2 20 rfl rfl)
theorem dX4_endsSo_68 : decode cX4_endsSo 68 = .ok (.imul, 1) := dk_104 (dk_at dksX4_endsSo_2 21 rfl rfl)
theorem dX4_endsSo_69 : decode cX4_endsSo 69 = .ok (.iconst 1, 1) := dk_4 (dk_at dksX4_endsSo_2 22 rfl rfl)
theorem dX4_endsSo_70 : decode cX4_endsSo 70 = .ok (.iadd, 1) := dk_96 (dk_at dksX4_endsSo_2 23 rfl rfl)
theorem dX4_endsSo_71 : decode cX4_endsSo 71 = .ok (.iload 5, 2) := dk_21 5 (dk_at dksX4_endsSo_3 0 rfl rfl)
theorem dX4_endsSo_73 : decode cX4_endsSo 73 = .ok (.iadd, 1) := dk_96 (dk_at dksX4_endsSo_3 2 rfl rfl)
theorem dX4_endsSo_74 : decode cX4_endsSo 74 = .ok (.iaload, 1) := dk_46 (dk_at dksX4_endsSo_3 3 rfl rfl)
theorem dX4_endsSo_75 : decode cX4_endsSo 75 = .ok (.if_icmp .ne 7, 3) := dk_160 0 7 (dk_at dksX4_endsSo_3 4 rfl rfl)
theorem dX4_endsSo_78 : decode cX4_endsSo 78 = .ok (.iconst 1, 1) := dk_4 (dk_at dksX4_endsSo_3 7 rfl rfl)
theorem dX4_endsSo_79 : decode cX4_endsSo 79 = .ok (.goto 4, 3) := dk_167 0 4 (dk_at dksX4_endsSo_3 8 rfl rfl)
theorem dX4_endsSo_82 : decode cX4_endsSo 82 = .ok (.iconst 0, 1) := dk_3 (dk_at dksX4_endsSo_3 11 rfl rfl)
theorem dX4_endsSo_83 : decode cX4_endsSo 83 = .ok (.istore 4, 2) := dk_54 4 (dk_at dksX4_endsSo_3 12 rfl rfl)
theorem dX4_endsSo_85 : decode cX4_endsSo 85 = .ok (.iinc 5 1, 3) := dk_132 5 1 (dk_at dksX4_endsSo_3 14 rfl rfl)
theorem dX4_endsSo_88 : decode cX4_endsSo 88 = .ok (.goto (-56), 3) := dk_167 255 200 (dk_at dksX4_endsSo_3 17 rfl rfl)
theorem dX4_endsSo_91 : decode cX4_endsSo 91 = .ok (.iload 4, 2) := dk_21 4 (dk_at dksX4_endsSo_3 20 rfl rfl)
theorem dX4_endsSo_93 : decode cX4_endsSo 93 = .ok (.ireturn, 1) := dk_172 (dk_at dksX4_endsSo_3 22 rfl rfl)
abbrev cX4_heard : ByteArray := prog_13_method_66_code
def yX4_heard : MethodName := ⟨RX4, "heard", "(II)I"⟩
def dkwX4_heard_1 : List UInt8 := [182, 0, 209, 42, 27, 28, 182, 1, 4, 172]
abbrev dktX4_heard_1 : List UInt8 := dkwX4_heard_1 ++ []
def dkwX4_heard_0 : List UInt8 := [42, 27, 182, 0, 218, 153, 0, 15, 28, 133, 9, 20, 0, 242, 184, 0, 80, 154, 0, 5, 2, 172, 42]
abbrev dktX4_heard_0 : List UInt8 := dkwX4_heard_0 ++ dktX4_heard_1
theorem dksX4_heard_0 : cX4_heard.data.toList.drop 0 = dktX4_heard_0 := by decide +kernel
theorem dksX4_heard_1 : cX4_heard.data.toList.drop 23 = dktX4_heard_1 := dk_seg dksX4_heard_0 23 rfl rfl
theorem dX4_heard_0 : decode cX4_heard 0 = .ok (.aload_n 0, 1) := dk_42 (dk_at dksX4_heard_0 0 rfl rfl)
theorem dX4_heard_1 : decode cX4_heard 1 = .ok (.iload_n 1, 1) := dk_27 (dk_at dksX4_heard_0 1 rfl rfl)
theorem dX4_heard_2 : decode cX4_heard 2 = .ok (.invokevirtual 218, 3) := dk_182 0 218 (dk_at dksX4_heard_0 2 rfl rfl)
theorem dX4_heard_5 : decode cX4_heard 5 = .ok (.ifCond .eq 15, 3) := dk_153 0 15 (dk_at dksX4_heard_0 5 rfl rfl)
theorem dX4_heard_8 : decode cX4_heard 8 = .ok (.iload_n 2, 1) := dk_28 (dk_at dksX4_heard_0 8 rfl rfl)
theorem dX4_heard_9 : decode cX4_heard 9 = .ok (.i2l, 1) := dk_133 (dk_at dksX4_heard_0 9 rfl rfl)
theorem dX4_heard_10 : decode cX4_heard 10 = .ok (.lconst 0, 1) := dk_9 (dk_at dksX4_heard_0 10 rfl rfl)
theorem dX4_heard_11 : decode cX4_heard 11 = .ok (.ldc2_w 242, 3) := dk_20 0 242 (dk_at dksX4_heard_0 11 rfl rfl)
theorem dX4_heard_14 : decode cX4_heard 14 = .ok (.invokestatic 80, 3) := dk_184 0 80 (dk_at dksX4_heard_0 14 rfl rfl)
theorem dX4_heard_17 : decode cX4_heard 17 = .ok (.ifCond .ne 5, 3) := dk_154 0 5 (dk_at dksX4_heard_0 17 rfl rfl)
theorem dX4_heard_20 : decode cX4_heard 20 = .ok (.iconst (-1), 1) := dk_2 (dk_at dksX4_heard_0 20 rfl rfl)
theorem dX4_heard_21 : decode cX4_heard 21 = .ok (.ireturn, 1) := dk_172 (dk_at dksX4_heard_0 21 rfl rfl)
theorem dX4_heard_22 : decode cX4_heard 22 = .ok (.aload_n 0, 1) := dk_42 (dk_at dksX4_heard_0 22 rfl rfl)
theorem dX4_heard_23 : decode cX4_heard 23 = .ok (.invokevirtual 209, 3) := dk_182 0 209 (dk_at dksX4_heard_1 0 rfl rfl)
theorem dX4_heard_26 : decode cX4_heard 26 = .ok (.aload_n 0, 1) := dk_42 (dk_at dksX4_heard_1 3 rfl rfl)
theorem dX4_heard_27 : decode cX4_heard 27 = .ok (.iload_n 1, 1) := dk_27 (dk_at dksX4_heard_1 4 rfl rfl)
theorem dX4_heard_28 : decode cX4_heard 28 = .ok (.iload_n 2, 1) := dk_28 (dk_at dksX4_heard_1 5 rfl rfl)
theorem dX4_heard_29 : decode cX4_heard 29 = .ok (.invokevirtual 260, 3) := dk_182 1 4 (dk_at dksX4_heard_1 6 rfl rfl)
theorem dX4_heard_32 : decode cX4_heard 32 = .ok (.ireturn, 1) := dk_172 (dk_at dksX4_heard_1 9 rfl rfl)
abbrev cX4_heardIn : ByteArray := prog_13_method_65_code
def yX4_heardIn : MethodName := ⟨RX4, "heardIn", "(II)I"⟩
def dkwX4_heardIn_2 : List UInt8 := [128, 62, 132, 4, 1, 167, 255, 209, 29, 172]
abbrev dktX4_heardIn_2 : List UInt8 := dkwX4_heardIn_2 ++ []
def dkwX4_heardIn_1 : List UInt8 := [160, 0, 17, 42, 21, 4, 28, 182, 1, 1, 153, 0, 7, 4, 167, 0, 4, 3, 184, 0, 154, 21, 4, 120]
abbrev dktX4_heardIn_1 : List UInt8 := dkwX4_heardIn_1 ++ dktX4_heardIn_2
def dkwX4_heardIn_0 : List UInt8 := [3, 62, 3, 54, 4, 21, 4, 42, 180, 0, 72, 162, 0, 44, 29, 42, 21, 4, 5, 182, 0, 165, 27]
abbrev dktX4_heardIn_0 : List UInt8 := dkwX4_heardIn_0 ++ dktX4_heardIn_1
theorem dksX4_heardIn_0 : cX4_heardIn.data.toList.drop 0 = dktX4_heardIn_0 := by decide +kernel
theorem dksX4_heardIn_1 : cX4_heardIn.data.toList.drop 23 = dktX4_heardIn_1 := dk_seg dksX4_heardIn_0 23 rfl rfl
theorem dksX4_heardIn_2 : cX4_heardIn.data.toList.drop 47 = dktX4_heardIn_2 := dk_seg dksX4_heardIn_1 24 rfl rfl
theorem dX4_heardIn_0 : decode cX4_heardIn 0 = .ok (.iconst 0, 1) := dk_3 (dk_at dksX4_heardIn_0 0 rfl rfl)
theorem dX4_heardIn_1 : decode cX4_heardIn 1 = .ok (.istore_n 3, 1) := dk_62 (dk_at dksX4_heardIn_0 1 rfl rfl)
theorem dX4_heardIn_2 : decode cX4_heardIn 2 = .ok (.iconst 0, 1) := dk_3 (dk_at dksX4_heardIn_0 2 rfl rfl)
theorem dX4_heardIn_3 : decode cX4_heardIn 3 = .ok (.istore 4, 2) := dk_54 4 (dk_at dksX4_heardIn_0 3 rfl rfl)
theorem dX4_heardIn_5 : decode cX4_heardIn 5 = .ok (.iload 4, 2) := dk_21 4 (dk_at dksX4_heardIn_0 5 rfl rfl)
theorem dX4_heardIn_7 : decode cX4_heardIn 7 = .ok (.aload_n 0, 1) := dk_42 (dk_at dksX4_heardIn_0 7 rfl rfl)
theorem dX4_heardIn_8 : decode cX4_heardIn 8 = .ok (.getfield 72, 3) := dk_180 0 72 (dk_at dksX4_heardIn_0 8 rfl rfl)
theorem dX4_heardIn_11 : decode cX4_heardIn 11 = .ok (.if_icmp .ge 44, 3) := dk_162 0 44 (dk_at dksX4_heardIn_0 11 rfl rfl)
theorem dX4_heardIn_14 : decode cX4_heardIn 14 = .ok (.iload_n 3, 1) := dk_29 (dk_at dksX4_heardIn_0 14 rfl rfl)
theorem dX4_heardIn_15 : decode cX4_heardIn 15 = .ok (.aload_n 0, 1) := dk_42 (dk_at dksX4_heardIn_0 15 rfl rfl)
theorem dX4_heardIn_16 : decode cX4_heardIn 16 = .ok (.iload 4, 2) := dk_21 4 (dk_at dksX4_heardIn_0 16 rfl rfl)
theorem dX4_heardIn_18 : decode cX4_heardIn 18 = .ok (.iconst 2, 1) := dk_5 (dk_at dksX4_heardIn_0 18 rfl rfl)
theorem dX4_heardIn_19 : decode cX4_heardIn 19 = .ok (.invokevirtual 165, 3) := dk_182 0 165 (dk_at dksX4_heardIn_0 19 rfl rfl)
theorem dX4_heardIn_22 : decode cX4_heardIn 22 = .ok (.iload_n 1, 1) := dk_27 (dk_at dksX4_heardIn_0 22 rfl rfl)
theorem dX4_heardIn_23 : decode cX4_heardIn 23 = .ok (.if_icmp .ne 17, 3) := dk_160 0 17 (dk_at dksX4_heardIn_1 0 rfl rfl)
theorem dX4_heardIn_26 : decode cX4_heardIn 26 = .ok (.aload_n 0, 1) := dk_42 (dk_at dksX4_heardIn_1 3 rfl rfl)
theorem dX4_heardIn_27 : decode cX4_heardIn 27 = .ok (.iload 4, 2) := dk_21 4 (dk_at dksX4_heardIn_1 4 rfl rfl)
theorem dX4_heardIn_29 : decode cX4_heardIn 29 = .ok (.iload_n 2, 1) := dk_28 (dk_at dksX4_heardIn_1 6 rfl rfl)
theorem dX4_heardIn_30 : decode cX4_heardIn 30 = .ok (.invokevirtual 257, 3) := dk_182 1 1 (dk_at dksX4_heardIn_1 7 rfl rfl)
theorem dX4_heardIn_33 : decode cX4_heardIn 33 = .ok (.ifCond .eq 7, 3) := dk_153 0 7 (dk_at dksX4_heardIn_1 10 rfl rfl)
theorem dX4_heardIn_36 : decode cX4_heardIn 36 = .ok (.iconst 1, 1) := dk_4 (dk_at dksX4_heardIn_1 13 rfl rfl)
theorem dX4_heardIn_37 : decode cX4_heardIn 37 = .ok (.goto 4, 3) := dk_167 0 4 (dk_at dksX4_heardIn_1 14 rfl rfl)
theorem dX4_heardIn_40 : decode cX4_heardIn 40 = .ok (.iconst 0, 1) := dk_3 (dk_at dksX4_heardIn_1 17 rfl rfl)
theorem dX4_heardIn_41 : decode cX4_heardIn 41 = .ok (.invokestatic 154, 3) := dk_184 0 154 (dk_at dksX4_heardIn_1 18 rfl rfl)
theorem dX4_heardIn_44 : decode cX4_heardIn 44 = .ok (.iload 4, 2) := dk_21 4 (dk_at dksX4_heardIn_1 21 rfl rfl)
theorem dX4_heardIn_46 : decode cX4_heardIn 46 = .ok (.ishl, 1) := dk_120 (dk_at dksX4_heardIn_1 23 rfl rfl)
theorem dX4_heardIn_47 : decode cX4_heardIn 47 = .ok (.ior, 1) := dk_128 (dk_at dksX4_heardIn_2 0 rfl rfl)
theorem dX4_heardIn_48 : decode cX4_heardIn 48 = .ok (.istore_n 3, 1) := dk_62 (dk_at dksX4_heardIn_2 1 rfl rfl)
theorem dX4_heardIn_49 : decode cX4_heardIn 49 = .ok (.iinc 4 1, 3) := dk_132 4 1 (dk_at dksX4_heardIn_2 2 rfl rfl)
theorem dX4_heardIn_52 : decode cX4_heardIn 52 = .ok (.goto (-47), 3) := dk_167 255 209 (dk_at dksX4_heardIn_2 5 rfl rfl)
theorem dX4_heardIn_55 : decode cX4_heardIn 55 = .ok (.iload_n 3, 1) := dk_29 (dk_at dksX4_heardIn_2 8 rfl rfl)
theorem dX4_heardIn_56 : decode cX4_heardIn 56 = .ok (.ireturn, 1) := dk_172 (dk_at dksX4_heardIn_2 9 rfl rfl)
abbrev cX4_isHeard : ByteArray := prog_13_method_38_code
def yX4_isHeard : MethodName := ⟨RX4, "isHeard", "(II)Z"⟩
def dkwX4_isHeard_2 : List UInt8 := [28, 42, 27, 182, 0, 181, 112, 154, 0, 7, 4, 167, 0, 4, 3, 172]
abbrev dktX4_isHeard_2 : List UInt8 := dkwX4_isHeard_2 ++ []
def dkwX4_isHeard_1 : List UInt8 := [167, 0, 4, 3, 54, 4, 28, 154, 0, 8, 21, 4, 167, 0, 27, 28, 42, 27, 182, 0, 184, 163, 0, 17]
abbrev dktX4_isHeard_1 : List UInt8 := dkwX4_isHeard_1 ++ dktX4_isHeard_2
def dkwX4_isHeard_0 : List UInt8 := [42, 27, 182, 0, 178, 62, 29, 154, 0, 5, 3, 172, 42, 27, 3, 182, 0, 165, 5, 160, 0, 7, 4]
abbrev dktX4_isHeard_0 : List UInt8 := dkwX4_isHeard_0 ++ dktX4_isHeard_1
theorem dksX4_isHeard_0 : cX4_isHeard.data.toList.drop 0 = dktX4_isHeard_0 := by decide +kernel
theorem dksX4_isHeard_1 : cX4_isHeard.data.toList.drop 23 = dktX4_isHeard_1 := dk_seg dksX4_isHeard_0 23 rfl rfl
theorem dksX4_isHeard_2 : cX4_isHeard.data.toList.drop 47 = dktX4_isHeard_2 := dk_seg dksX4_isHeard_1 24 rfl rfl
theorem dX4_isHeard_0 : decode cX4_isHeard 0 = .ok (.aload_n 0, 1) := dk_42 (dk_at dksX4_isHeard_0 0 rfl rfl)
theorem dX4_isHeard_1 : decode cX4_isHeard 1 = .ok (.iload_n 1, 1) := dk_27 (dk_at dksX4_isHeard_0 1 rfl rfl)
theorem dX4_isHeard_2 : decode cX4_isHeard 2 = .ok (.invokevirtual 178, 3) := dk_182 0 178 (dk_at dksX4_isHeard_0 2 rfl rfl)
theorem dX4_isHeard_5 : decode cX4_isHeard 5 = .ok (.istore_n 3, 1) := dk_62 (dk_at dksX4_isHeard_0 5 rfl rfl)
theorem dX4_isHeard_6 : decode cX4_isHeard 6 = .ok (.iload_n 3, 1) := dk_29 (dk_at dksX4_isHeard_0 6 rfl rfl)
theorem dX4_isHeard_7 : decode cX4_isHeard 7 = .ok (.ifCond .ne 5, 3) := dk_154 0 5 (dk_at dksX4_isHeard_0 7 rfl rfl)
theorem dX4_isHeard_10 : decode cX4_isHeard 10 = .ok (.iconst 0, 1) := dk_3 (dk_at dksX4_isHeard_0 10 rfl rfl)
theorem dX4_isHeard_11 : decode cX4_isHeard 11 = .ok (.ireturn, 1) := dk_172 (dk_at dksX4_isHeard_0 11 rfl rfl)
theorem dX4_isHeard_12 : decode cX4_isHeard 12 = .ok (.aload_n 0, 1) := dk_42 (dk_at dksX4_isHeard_0 12 rfl rfl)
theorem dX4_isHeard_13 : decode cX4_isHeard 13 = .ok (.iload_n 1, 1) := dk_27 (dk_at dksX4_isHeard_0 13 rfl rfl)
theorem dX4_isHeard_14 : decode cX4_isHeard 14 = .ok (.iconst 0, 1) := dk_3 (dk_at dksX4_isHeard_0 14 rfl rfl)
theorem dX4_isHeard_15 : decode cX4_isHeard 15 = .ok (.invokevirtual 165, 3) := dk_182 0 165 (dk_at dksX4_isHeard_0 15 rfl rfl)
theorem dX4_isHeard_18 : decode cX4_isHeard 18 = .ok (.iconst 2, 1) := dk_5 (dk_at dksX4_isHeard_0 18 rfl rfl)
theorem dX4_isHeard_19 : decode cX4_isHeard 19 = .ok (.if_icmp .ne 7, 3) := dk_160 0 7 (dk_at dksX4_isHeard_0 19 rfl rfl)
theorem dX4_isHeard_22 : decode cX4_isHeard 22 = .ok (.iconst 1, 1) := dk_4 (dk_at dksX4_isHeard_0 22 rfl rfl)
theorem dX4_isHeard_23 : decode cX4_isHeard 23 = .ok (.goto 4, 3) := dk_167 0 4 (dk_at dksX4_isHeard_1 0 rfl rfl)
theorem dX4_isHeard_26 : decode cX4_isHeard 26 = .ok (.iconst 0, 1) := dk_3 (dk_at dksX4_isHeard_1 3 rfl rfl)
theorem dX4_isHeard_27 : decode cX4_isHeard 27 = .ok (.istore 4, 2) := dk_54 4 (dk_at dksX4_isHeard_1 4 rfl rfl)
theorem dX4_isHeard_29 : decode cX4_isHeard 29 = .ok (.iload_n 2, 1) := dk_28 (dk_at dksX4_isHeard_1 6 rfl rfl)
theorem dX4_isHeard_30 : decode cX4_isHeard 30 = .ok (.ifCond .ne 8, 3) := dk_154 0 8 (dk_at dksX4_isHeard_1 7 rfl rfl)
theorem dX4_isHeard_33 : decode cX4_isHeard 33 = .ok (.iload 4, 2) := dk_21 4 (dk_at dksX4_isHeard_1 10 rfl rfl)
theorem dX4_isHeard_35 : decode cX4_isHeard 35 = .ok (.goto 27, 3) := dk_167 0 27 (dk_at dksX4_isHeard_1 12 rfl rfl)
theorem dX4_isHeard_38 : decode cX4_isHeard 38 = .ok (.iload_n 2, 1) := dk_28 (dk_at dksX4_isHeard_1 15 rfl rfl)
theorem dX4_isHeard_39 : decode cX4_isHeard 39 = .ok (.aload_n 0, 1) := dk_42 (dk_at dksX4_isHeard_1 16 rfl rfl)
theorem dX4_isHeard_40 : decode cX4_isHeard 40 = .ok (.iload_n 1, 1) := dk_27 (dk_at dksX4_isHeard_1 17 rfl rfl)
theorem dX4_isHeard_41 : decode cX4_isHeard 41 = .ok (.invokevirtual 184, 3) := dk_182 0 184 (dk_at dksX4_isHeard_1 18 rfl rfl)
theorem dX4_isHeard_44 : decode cX4_isHeard 44 = .ok (.if_icmp .gt 17, 3) := dk_163 0 17 (dk_at dksX4_isHeard_1 21 rfl rfl)
theorem dX4_isHeard_47 : decode cX4_isHeard 47 = .ok (.iload_n 2, 1) := dk_28 (dk_at dksX4_isHeard_2 0 rfl rfl)
theorem dX4_isHeard_48 : decode cX4_isHeard 48 = .ok (.aload_n 0, 1) := dk_42 (dk_at dksX4_isHeard_2 1 rfl rfl)
theorem dX4_isHeard_49 : decode cX4_isHeard 49 = .ok (.iload_n 1, 1) := dk_27 (dk_at dksX4_isHeard_2 2 rfl rfl)
theorem dX4_isHeard_50 : decode cX4_isHeard 50 = .ok (.invokevirtual 181, 3) := dk_182 0 181 (dk_at dksX4_isHeard_2 3 rfl rfl)
theorem dX4_isHeard_53 : decode cX4_isHeard 53 = .ok (.irem, 1) := dk_112 (dk_at dksX4_isHeard_2 6 rfl rfl)
theorem dX4_isHeard_54 : decode cX4_isHeard 54 = .ok (.ifCond .ne 7, 3) := dk_154 0 7 (dk_at dksX4_isHeard_2 7 rfl rfl)
theorem dX4_isHeard_57 : decode cX4_isHeard 57 = .ok (.iconst 1, 1) := dk_4 (dk_at dksX4_isHeard_2 10 rfl rfl)
theorem dX4_isHeard_58 : decode cX4_isHeard 58 = .ok (.goto 4, 3) := dk_167 0 4 (dk_at dksX4_isHeard_2 11 rfl rfl)
theorem dX4_isHeard_61 : decode cX4_isHeard 61 = .ok (.iconst 0, 1) := dk_3 (dk_at dksX4_isHeard_2 14 rfl rfl)
theorem dX4_isHeard_62 : decode cX4_isHeard 62 = .ok (.ireturn, 1) := dk_172 (dk_at dksX4_isHeard_2 15 rfl rfl)
abbrev cX4_lastHeard : ByteArray := prog_13_method_37_code
def yX4_lastHeard : MethodName := ⟨RX4, "lastHeard", "(I)I"⟩
def dkwX4_lastHeard_1 : List UInt8 := [182, 0, 165, 5, 160, 0, 9, 28, 4, 100, 167, 0, 4, 28, 104, 172]
abbrev dktX4_lastHeard_1 : List UInt8 := dkwX4_lastHeard_1 ++ []
def dkwX4_lastHeard_0 : List UInt8 := [42, 27, 182, 0, 178, 61, 28, 154, 0, 8, 16, 252, 167, 0, 26, 42, 27, 182, 0, 181, 42, 27, 3]
abbrev dktX4_lastHeard_0 : List UInt8 := dkwX4_lastHeard_0 ++ dktX4_lastHeard_1
theorem dksX4_lastHeard_0 : cX4_lastHeard.data.toList.drop 0 = dktX4_lastHeard_0 := by decide +kernel
theorem dksX4_lastHeard_1 : cX4_lastHeard.data.toList.drop 23 = dktX4_lastHeard_1 := dk_seg dksX4_lastHeard_0 23 rfl rfl
theorem dX4_lastHeard_0 : decode cX4_lastHeard 0 = .ok (.aload_n 0, 1) := dk_42 (dk_at dksX4_lastHeard_0 0 rfl rfl)
theorem dX4_lastHeard_1 : decode cX4_lastHeard 1 = .ok (.iload_n 1, 1) := dk_27 (dk_at dksX4_lastHeard_0 1 rfl rfl)
theorem dX4_lastHeard_2 : decode cX4_lastHeard 2 = .ok (.invokevirtual 178, 3) := dk_182 0 178 (dk_at dksX4_lastHeard_0 2 rfl rfl)
theorem dX4_lastHeard_5 : decode cX4_lastHeard 5 = .ok (.istore_n 2, 1) := dk_61 (dk_at dksX4_lastHeard_0 5 rfl rfl)
theorem dX4_lastHeard_6 : decode cX4_lastHeard 6 = .ok (.iload_n 2, 1) := dk_28 (dk_at dksX4_lastHeard_0 6 rfl rfl)
theorem dX4_lastHeard_7 : decode cX4_lastHeard 7 = .ok (.ifCond .ne 8, 3) := dk_154 0 8 (dk_at dksX4_lastHeard_0 7 rfl rfl)
theorem dX4_lastHeard_10 : decode cX4_lastHeard 10 = .ok (.bipush (-4), 2) := dk_16 252 (dk_at dksX4_lastHeard_0 10 rfl rfl)
theorem dX4_lastHeard_12 : decode cX4_lastHeard 12 = .ok (.goto 26, 3) := dk_167 0 26 (dk_at dksX4_lastHeard_0 12 rfl rfl)
theorem dX4_lastHeard_15 : decode cX4_lastHeard 15 = .ok (.aload_n 0, 1) := dk_42 (dk_at dksX4_lastHeard_0 15 rfl rfl)
theorem dX4_lastHeard_16 : decode cX4_lastHeard 16 = .ok (.iload_n 1, 1) := dk_27 (dk_at dksX4_lastHeard_0 16 rfl rfl)
theorem dX4_lastHeard_17 : decode cX4_lastHeard 17 = .ok (.invokevirtual 181, 3) := dk_182 0 181 (dk_at dksX4_lastHeard_0 17 rfl rfl)
theorem dX4_lastHeard_20 : decode cX4_lastHeard 20 = .ok (.aload_n 0, 1) := dk_42 (dk_at dksX4_lastHeard_0 20 rfl rfl)
theorem dX4_lastHeard_21 : decode cX4_lastHeard 21 = .ok (.iload_n 1, 1) := dk_27 (dk_at dksX4_lastHeard_0 21 rfl rfl)
theorem dX4_lastHeard_22 : decode cX4_lastHeard 22 = .ok (.iconst 0, 1) := dk_3 (dk_at dksX4_lastHeard_0 22 rfl rfl)
theorem dX4_lastHeard_23 : decode cX4_lastHeard 23 = .ok (.invokevirtual 165, 3) := dk_182 0 165 (dk_at dksX4_lastHeard_1 0 rfl rfl)
theorem dX4_lastHeard_26 : decode cX4_lastHeard 26 = .ok (.iconst 2, 1) := dk_5 (dk_at dksX4_lastHeard_1 3 rfl rfl)
theorem dX4_lastHeard_27 : decode cX4_lastHeard 27 = .ok (.if_icmp .ne 9, 3) := dk_160 0 9 (dk_at dksX4_lastHeard_1 4 rfl rfl)
theorem dX4_lastHeard_30 : decode cX4_lastHeard 30 = .ok (.iload_n 2, 1) := dk_28 (dk_at dksX4_lastHeard_1 7 rfl rfl)
theorem dX4_lastHeard_31 : decode cX4_lastHeard 31 = .ok (.iconst 1, 1) := dk_4 (dk_at dksX4_lastHeard_1 8 rfl rfl)
theorem dX4_lastHeard_32 : decode cX4_lastHeard 32 = .ok (.isub, 1) := dk_100 (dk_at dksX4_lastHeard_1 9 rfl rfl)
theorem dX4_lastHeard_33 : decode cX4_lastHeard 33 = .ok (.goto 4, 3) := dk_167 0 4 (dk_at dksX4_lastHeard_1 10 rfl rfl)
theorem dX4_lastHeard_36 : decode cX4_lastHeard 36 = .ok (.iload_n 2, 1) := dk_28 (dk_at dksX4_lastHeard_1 13 rfl rfl)
theorem dX4_lastHeard_37 : decode cX4_lastHeard 37 = .ok (.imul, 1) := dk_104 (dk_at dksX4_lastHeard_1 14 rfl rfl)
theorem dX4_lastHeard_38 : decode cX4_lastHeard 38 = .ok (.ireturn, 1) := dk_172 (dk_at dksX4_lastHeard_1 15 rfl rfl)
abbrev cX4_together : ByteArray := prog_13_method_67_code
def yX4_together : MethodName := ⟨RX4, "together", "(I)I"⟩
def dkwX4_together_2 : List UInt8 := [167, 255, 231, 16, 252, 172]
abbrev dktX4_together_2 : List UInt8 := dkwX4_together_2 ++ []
def dkwX4_together_1 : List UInt8 := [16, 100, 162, 0, 25, 28, 153, 0, 21, 42, 27, 29, 182, 1, 4, 28, 160, 0, 5, 29, 172, 132, 3, 1]
abbrev dktX4_together_1 : List UInt8 := dkwX4_together_1 ++ dktX4_together_2
def dkwX4_together_0 : List UInt8 := [42, 27, 182, 0, 218, 154, 0, 5, 2, 172, 42, 182, 0, 209, 42, 27, 182, 0, 212, 61, 3, 62, 29]
abbrev dktX4_together_0 : List UInt8 := dkwX4_together_0 ++ dktX4_together_1
theorem dksX4_together_0 : cX4_together.data.toList.drop 0 = dktX4_together_0 := by decide +kernel
theorem dksX4_together_1 : cX4_together.data.toList.drop 23 = dktX4_together_1 := dk_seg dksX4_together_0 23 rfl rfl
theorem dksX4_together_2 : cX4_together.data.toList.drop 47 = dktX4_together_2 := dk_seg dksX4_together_1 24 rfl rfl
theorem dX4_together_0 : decode cX4_together 0 = .ok (.aload_n 0, 1) := dk_42 (dk_at dksX4_together_0 0 rfl rfl)
theorem dX4_together_1 : decode cX4_together 1 = .ok (.iload_n 1, 1) := dk_27 (dk_at dksX4_together_0 1 rfl rfl)
theorem dX4_together_2 : decode cX4_together 2 = .ok (.invokevirtual 218, 3) := dk_182 0 218 (dk_at dksX4_together_0 2 rfl rfl)
theorem dX4_together_5 : decode cX4_together 5 = .ok (.ifCond .ne 5, 3) := dk_154 0 5 (dk_at dksX4_together_0 5 rfl rfl)
theorem dX4_together_8 : decode cX4_together 8 = .ok (.iconst (-1), 1) := dk_2 (dk_at dksX4_together_0 8 rfl rfl)
theorem dX4_together_9 : decode cX4_together 9 = .ok (.ireturn, 1) := dk_172 (dk_at dksX4_together_0 9 rfl rfl)
theorem dX4_together_10 : decode cX4_together 10 = .ok (.aload_n 0, 1) := dk_42 (dk_at dksX4_together_0 10 rfl rfl)
theorem dX4_together_11 : decode cX4_together 11 = .ok (.invokevirtual 209, 3) := dk_182 0 209 (dk_at dksX4_together_0 11 rfl rfl)
theorem dX4_together_14 : decode cX4_together 14 = .ok (.aload_n 0, 1) := dk_42 (dk_at dksX4_together_0 14 rfl rfl)
theorem dX4_together_15 : decode cX4_together 15 = .ok (.iload_n 1, 1) := dk_27 (dk_at dksX4_together_0 15 rfl rfl)
theorem dX4_together_16 : decode cX4_together 16 = .ok (.invokevirtual 212, 3) := dk_182 0 212 (dk_at dksX4_together_0 16 rfl rfl)
theorem dX4_together_19 : decode cX4_together 19 = .ok (.istore_n 2, 1) := dk_61 (dk_at dksX4_together_0 19 rfl rfl)
theorem dX4_together_20 : decode cX4_together 20 = .ok (.iconst 0, 1) := dk_3 (dk_at dksX4_together_0 20 rfl rfl)
theorem dX4_together_21 : decode cX4_together 21 = .ok (.istore_n 3, 1) := dk_62 (dk_at dksX4_together_0 21 rfl rfl)
theorem dX4_together_22 : decode cX4_together 22 = .ok (.iload_n 3, 1) := dk_29 (dk_at dksX4_together_0 22 rfl rfl)
theorem dX4_together_23 : decode cX4_together 23 = .ok (.bipush 100, 2) := dk_16 100 (dk_at dksX4_together_1 0 rfl rfl)
theorem dX4_together_25 : decode cX4_together 25 = .ok (.if_icmp .ge 25, 3) := dk_162 0 25 (dk_at dksX4_together_1 2 rfl rfl)
theorem dX4_together_28 : decode cX4_together 28 = .ok (.iload_n 2, 1) := dk_28 (dk_at dksX4_together_1 5 rfl rfl)
theorem dX4_together_29 : decode cX4_together 29 = .ok (.ifCond .eq 21, 3) := dk_153 0 21 (dk_at dksX4_together_1 6 rfl rfl)
theorem dX4_together_32 : decode cX4_together 32 = .ok (.aload_n 0, 1) := dk_42 (dk_at dksX4_together_1 9 rfl rfl)
theorem dX4_together_33 : decode cX4_together 33 = .ok (.iload_n 1, 1) := dk_27 (dk_at dksX4_together_1 10 rfl rfl)
theorem dX4_together_34 : decode cX4_together 34 = .ok (.iload_n 3, 1) := dk_29 (dk_at dksX4_together_1 11 rfl rfl)
theorem dX4_together_35 : decode cX4_together 35 = .ok (.invokevirtual 260, 3) := dk_182 1 4 (dk_at dksX4_together_1 12 rfl rfl)
theorem dX4_together_38 : decode cX4_together 38 = .ok (.iload_n 2, 1) := dk_28 (dk_at dksX4_together_1 15 rfl rfl)
theorem dX4_together_39 : decode cX4_together 39 = .ok (.if_icmp .ne 5, 3) := dk_160 0 5 (dk_at dksX4_together_1 16 rfl rfl)
theorem dX4_together_42 : decode cX4_together 42 = .ok (.iload_n 3, 1) := dk_29 (dk_at dksX4_together_1 19 rfl rfl)
theorem dX4_together_43 : decode cX4_together 43 = .ok (.ireturn, 1) := dk_172 (dk_at dksX4_together_1 20 rfl rfl)
theorem dX4_together_44 : decode cX4_together 44 = .ok (.iinc 3 1, 3) := dk_132 3 1 (dk_at dksX4_together_1 21 rfl rfl)
theorem dX4_together_47 : decode cX4_together 47 = .ok (.goto (-25), 3) := dk_167 255 231 (dk_at dksX4_together_2 0 rfl rfl)
theorem dX4_together_50 : decode cX4_together 50 = .ok (.bipush (-4), 2) := dk_16 252 (dk_at dksX4_together_2 3 rfl rfl)
theorem dX4_together_52 : decode cX4_together 52 = .ok (.ireturn, 1) := dk_172 (dk_at dksX4_together_2 5 rfl rfl)
abbrev cX4_still : ByteArray := prog_13_method_68_code
def yX4_still : MethodName := ⟨RX4, "still", "(I)I"⟩
def dkwX4_still_2 : List UInt8 := [182, 0, 184, 167, 0, 4, 28, 61, 132, 3, 1, 167, 255, 216, 28, 172]
abbrev dktX4_still_2 : List UInt8 := dkwX4_still_2 ++ []
def dkwX4_still_1 : List UInt8 := [162, 0, 38, 42, 29, 5, 182, 0, 165, 27, 160, 0, 20, 42, 29, 182, 0, 184, 28, 164, 0, 11, 42, 29]
abbrev dktX4_still_1 : List UInt8 := dkwX4_still_1 ++ dktX4_still_2
def dkwX4_still_0 : List UInt8 := [42, 27, 182, 0, 218, 154, 0, 5, 2, 172, 42, 182, 0, 209, 16, 252, 61, 3, 62, 29, 42, 180, 0, 72]
abbrev dktX4_still_0 : List UInt8 := dkwX4_still_0 ++ dktX4_still_1
theorem dksX4_still_0 : cX4_still.data.toList.drop 0 = dktX4_still_0 := by decide +kernel
theorem dksX4_still_1 : cX4_still.data.toList.drop 24 = dktX4_still_1 := dk_seg dksX4_still_0 24 rfl rfl
theorem dksX4_still_2 : cX4_still.data.toList.drop 48 = dktX4_still_2 := dk_seg dksX4_still_1 24 rfl rfl
theorem dX4_still_0 : decode cX4_still 0 = .ok (.aload_n 0, 1) := dk_42 (dk_at dksX4_still_0 0 rfl rfl)
theorem dX4_still_1 : decode cX4_still 1 = .ok (.iload_n 1, 1) := dk_27 (dk_at dksX4_still_0 1 rfl rfl)
theorem dX4_still_2 : decode cX4_still 2 = .ok (.invokevirtual 218, 3) := dk_182 0 218 (dk_at dksX4_still_0 2 rfl rfl)
theorem dX4_still_5 : decode cX4_still 5 = .ok (.ifCond .ne 5, 3) := dk_154 0 5 (dk_at dksX4_still_0 5 rfl rfl)
theorem dX4_still_8 : decode cX4_still 8 = .ok (.iconst (-1), 1) := dk_2 (dk_at dksX4_still_0 8 rfl rfl)
theorem dX4_still_9 : decode cX4_still 9 = .ok (.ireturn, 1) := dk_172 (dk_at dksX4_still_0 9 rfl rfl)
theorem dX4_still_10 : decode cX4_still 10 = .ok (.aload_n 0, 1) := dk_42 (dk_at dksX4_still_0 10 rfl rfl)
theorem dX4_still_11 : decode cX4_still 11 = .ok (.invokevirtual 209, 3) := dk_182 0 209 (dk_at dksX4_still_0 11 rfl rfl)
theorem dX4_still_14 : decode cX4_still 14 = .ok (.bipush (-4), 2) := dk_16 252 (dk_at dksX4_still_0 14 rfl rfl)
theorem dX4_still_16 : decode cX4_still 16 = .ok (.istore_n 2, 1) := dk_61 (dk_at dksX4_still_0 16 rfl rfl)
theorem dX4_still_17 : decode cX4_still 17 = .ok (.iconst 0, 1) := dk_3 (dk_at dksX4_still_0 17 rfl rfl)
theorem dX4_still_18 : decode cX4_still 18 = .ok (.istore_n 3, 1) := dk_62 (dk_at dksX4_still_0 18 rfl rfl)
theorem dX4_still_19 : decode cX4_still 19 = .ok (.iload_n 3, 1) := dk_29 (dk_at dksX4_still_0 19 rfl rfl)
theorem dX4_still_20 : decode cX4_still 20 = .ok (.aload_n 0, 1) := dk_42 (dk_at dksX4_still_0 20 rfl rfl)
theorem dX4_still_21 : decode cX4_still 21 = .ok (.getfield 72, 3) := dk_180 0 72 (dk_at dksX4_still_0 21 rfl rfl)
theorem dX4_still_24 : decode cX4_still 24 = .ok (.if_icmp .ge 38, 3) := dk_162 0 38 (dk_at dksX4_still_1 0 rfl rfl)
theorem dX4_still_27 : decode cX4_still 27 = .ok (.aload_n 0, 1) := dk_42 (dk_at dksX4_still_1 3 rfl rfl)
theorem dX4_still_28 : decode cX4_still 28 = .ok (.iload_n 3, 1) := dk_29 (dk_at dksX4_still_1 4 rfl rfl)
theorem dX4_still_29 : decode cX4_still 29 = .ok (.iconst 2, 1) := dk_5 (dk_at dksX4_still_1 5 rfl rfl)
theorem dX4_still_30 : decode cX4_still 30 = .ok (.invokevirtual 165, 3) := dk_182 0 165 (dk_at dksX4_still_1 6 rfl rfl)
theorem dX4_still_33 : decode cX4_still 33 = .ok (.iload_n 1, 1) := dk_27 (dk_at dksX4_still_1 9 rfl rfl)
theorem dX4_still_34 : decode cX4_still 34 = .ok (.if_icmp .ne 20, 3) := dk_160 0 20 (dk_at dksX4_still_1 10 rfl rfl)
theorem dX4_still_37 : decode cX4_still 37 = .ok (.aload_n 0, 1) := dk_42 (dk_at dksX4_still_1 13 rfl rfl)
theorem dX4_still_38 : decode cX4_still 38 = .ok (.iload_n 3, 1) := dk_29 (dk_at dksX4_still_1 14 rfl rfl)
theorem dX4_still_39 : decode cX4_still 39 = .ok (.invokevirtual 184, 3) := dk_182 0 184 (dk_at dksX4_still_1 15 rfl rfl)
theorem dX4_still_42 : decode cX4_still 42 = .ok (.iload_n 2, 1) := dk_28 (dk_at dksX4_still_1 18 rfl rfl)
theorem dX4_still_43 : decode cX4_still 43 = .ok (.if_icmp .le 11, 3) := dk_164 0 11 (dk_at dksX4_still_1 19 rfl rfl)
theorem dX4_still_46 : decode cX4_still 46 = .ok (.aload_n 0, 1) := dk_42 (dk_at dksX4_still_1 22 rfl rfl)
theorem dX4_still_47 : decode cX4_still 47 = .ok (.iload_n 3, 1) := dk_29 (dk_at dksX4_still_1 23 rfl rfl)
theorem dX4_still_48 : decode cX4_still 48 = .ok (.invokevirtual 184, 3) := dk_182 0 184 (dk_at dksX4_still_2 0 rfl rfl)
theorem dX4_still_51 : decode cX4_still 51 = .ok (.goto 4, 3) := dk_167 0 4 (dk_at dksX4_still_2 3 rfl rfl)
theorem dX4_still_54 : decode cX4_still 54 = .ok (.iload_n 2, 1) := dk_28 (dk_at dksX4_still_2 6 rfl rfl)
theorem dX4_still_55 : decode cX4_still 55 = .ok (.istore_n 2, 1) := dk_61 (dk_at dksX4_still_2 7 rfl rfl)
theorem dX4_still_56 : decode cX4_still 56 = .ok (.iinc 3 1, 3) := dk_132 3 1 (dk_at dksX4_still_2 8 rfl rfl)
theorem dX4_still_59 : decode cX4_still 59 = .ok (.goto (-40), 3) := dk_167 255 216 (dk_at dksX4_still_2 11 rfl rfl)
theorem dX4_still_62 : decode cX4_still 62 = .ok (.iload_n 2, 1) := dk_28 (dk_at dksX4_still_2 14 rfl rfl)
theorem dX4_still_63 : decode cX4_still 63 = .ok (.ireturn, 1) := dk_172 (dk_at dksX4_still_2 15 rfl rfl)
abbrev cX4_meets : ByteArray := prog_13_method_69_code
def yX4_meets : MethodName := ⟨RX4, "meets", "(I)I"⟩
def dkwX4_meets_2 : List UInt8 := [172]
abbrev dktX4_meets_2 : List UInt8 := dkwX4_meets_2 ++ []
def dkwX4_meets_1 : List UInt8 := [162, 0, 23, 28, 42, 27, 29, 182, 0, 254, 184, 0, 154, 29, 120, 128, 61, 132, 3, 1, 167, 255, 231, 28]
abbrev dktX4_meets_1 : List UInt8 := dkwX4_meets_1 ++ dktX4_meets_2
def dkwX4_meets_0 : List UInt8 := [42, 27, 182, 0, 223, 154, 0, 5, 2, 172, 42, 182, 0, 209, 3, 61, 3, 62, 29, 42, 180, 0, 75]
abbrev dktX4_meets_0 : List UInt8 := dkwX4_meets_0 ++ dktX4_meets_1
theorem dksX4_meets_0 : cX4_meets.data.toList.drop 0 = dktX4_meets_0 := by decide +kernel
theorem dksX4_meets_1 : cX4_meets.data.toList.drop 23 = dktX4_meets_1 := dk_seg dksX4_meets_0 23 rfl rfl
theorem dksX4_meets_2 : cX4_meets.data.toList.drop 47 = dktX4_meets_2 := dk_seg dksX4_meets_1 24 rfl rfl
theorem dX4_meets_0 : decode cX4_meets 0 = .ok (.aload_n 0, 1) := dk_42 (dk_at dksX4_meets_0 0 rfl rfl)
theorem dX4_meets_1 : decode cX4_meets 1 = .ok (.iload_n 1, 1) := dk_27 (dk_at dksX4_meets_0 1 rfl rfl)
theorem dX4_meets_2 : decode cX4_meets 2 = .ok (.invokevirtual 223, 3) := dk_182 0 223 (dk_at dksX4_meets_0 2 rfl rfl)
theorem dX4_meets_5 : decode cX4_meets 5 = .ok (.ifCond .ne 5, 3) := dk_154 0 5 (dk_at dksX4_meets_0 5 rfl rfl)
theorem dX4_meets_8 : decode cX4_meets 8 = .ok (.iconst (-1), 1) := dk_2 (dk_at dksX4_meets_0 8 rfl rfl)
theorem dX4_meets_9 : decode cX4_meets 9 = .ok (.ireturn, 1) := dk_172 (dk_at dksX4_meets_0 9 rfl rfl)
theorem dX4_meets_10 : decode cX4_meets 10 = .ok (.aload_n 0, 1) := dk_42 (dk_at dksX4_meets_0 10 rfl rfl)
theorem dX4_meets_11 : decode cX4_meets 11 = .ok (.invokevirtual 209, 3) := dk_182 0 209 (dk_at dksX4_meets_0 11 rfl rfl)
theorem dX4_meets_14 : decode cX4_meets 14 = .ok (.iconst 0, 1) := dk_3 (dk_at dksX4_meets_0 14 rfl rfl)
theorem dX4_meets_15 : decode cX4_meets 15 = .ok (.istore_n 2, 1) := dk_61 (dk_at dksX4_meets_0 15 rfl rfl)
theorem dX4_meets_16 : decode cX4_meets 16 = .ok (.iconst 0, 1) := dk_3 (dk_at dksX4_meets_0 16 rfl rfl)
theorem dX4_meets_17 : decode cX4_meets 17 = .ok (.istore_n 3, 1) := dk_62 (dk_at dksX4_meets_0 17 rfl rfl)
theorem dX4_meets_18 : decode cX4_meets 18 = .ok (.iload_n 3, 1) := dk_29 (dk_at dksX4_meets_0 18 rfl rfl)
theorem dX4_meets_19 : decode cX4_meets 19 = .ok (.aload_n 0, 1) := dk_42 (dk_at dksX4_meets_0 19 rfl rfl)
theorem dX4_meets_20 : decode cX4_meets 20 = .ok (.getfield 75, 3) := dk_180 0 75 (dk_at dksX4_meets_0 20 rfl rfl)
theorem dX4_meets_23 : decode cX4_meets 23 = .ok (.if_icmp .ge 23, 3) := dk_162 0 23 (dk_at dksX4_meets_1 0 rfl rfl)
theorem dX4_meets_26 : decode cX4_meets 26 = .ok (.iload_n 2, 1) := dk_28 (dk_at dksX4_meets_1 3 rfl rfl)
theorem dX4_meets_27 : decode cX4_meets 27 = .ok (.aload_n 0, 1) := dk_42 (dk_at dksX4_meets_1 4 rfl rfl)
theorem dX4_meets_28 : decode cX4_meets 28 = .ok (.iload_n 1, 1) := dk_27 (dk_at dksX4_meets_1 5 rfl rfl)
theorem dX4_meets_29 : decode cX4_meets 29 = .ok (.iload_n 3, 1) := dk_29 (dk_at dksX4_meets_1 6 rfl rfl)
theorem dX4_meets_30 : decode cX4_meets 30 = .ok (.invokevirtual 254, 3) := dk_182 0 254 (dk_at dksX4_meets_1 7 rfl rfl)
theorem dX4_meets_33 : decode cX4_meets 33 = .ok (.invokestatic 154, 3) := dk_184 0 154 (dk_at dksX4_meets_1 10 rfl rfl)
theorem dX4_meets_36 : decode cX4_meets 36 = .ok (.iload_n 3, 1) := dk_29 (dk_at dksX4_meets_1 13 rfl rfl)
theorem dX4_meets_37 : decode cX4_meets 37 = .ok (.ishl, 1) := dk_120 (dk_at dksX4_meets_1 14 rfl rfl)
theorem dX4_meets_38 : decode cX4_meets 38 = .ok (.ior, 1) := dk_128 (dk_at dksX4_meets_1 15 rfl rfl)
theorem dX4_meets_39 : decode cX4_meets 39 = .ok (.istore_n 2, 1) := dk_61 (dk_at dksX4_meets_1 16 rfl rfl)
theorem dX4_meets_40 : decode cX4_meets 40 = .ok (.iinc 3 1, 3) := dk_132 3 1 (dk_at dksX4_meets_1 17 rfl rfl)
theorem dX4_meets_43 : decode cX4_meets 43 = .ok (.goto (-25), 3) := dk_167 255 231 (dk_at dksX4_meets_1 20 rfl rfl)
theorem dX4_meets_46 : decode cX4_meets 46 = .ok (.iload_n 2, 1) := dk_28 (dk_at dksX4_meets_1 23 rfl rfl)
theorem dX4_meets_47 : decode cX4_meets 47 = .ok (.ireturn, 1) := dk_172 (dk_at dksX4_meets_2 0 rfl rfl)
abbrev cX4_sell : ByteArray := prog_13_method_70_code
def yX4_sell : MethodName := ⟨RX4, "sell", "(II)I"⟩
def dkwX4_sell_3 : List UInt8 := [42, 180, 0, 20, 16, 8, 28, 104, 16, 7, 96, 46, 96, 79, 42, 180, 0, 7, 16, 55, 46, 172]
abbrev dktX4_sell_3 : List UInt8 := dkwX4_sell_3 ++ []
def dkwX4_sell_2 : List UInt8 := [16, 252, 79, 42, 180, 0, 7, 16, 53, 92, 46, 4, 28, 120, 128, 79, 42, 180, 0, 7, 16, 55, 92, 46]
abbrev dktX4_sell_2 : List UInt8 := dkwX4_sell_2 ++ dktX4_sell_3
def dkwX4_sell_1 : List UInt8 := [28, 182, 0, 254, 154, 0, 6, 16, 254, 172, 42, 180, 0, 7, 16, 8, 16, 9, 27, 104, 96, 5, 96]
abbrev dktX4_sell_1 : List UInt8 := dkwX4_sell_1 ++ dktX4_sell_2
def dkwX4_sell_0 : List UInt8 := [42, 27, 182, 0, 223, 153, 0, 11, 42, 28, 182, 0, 226, 154, 0, 5, 2, 172, 42, 182, 0, 209, 42, 27]
abbrev dktX4_sell_0 : List UInt8 := dkwX4_sell_0 ++ dktX4_sell_1
theorem dksX4_sell_0 : cX4_sell.data.toList.drop 0 = dktX4_sell_0 := by decide +kernel
theorem dksX4_sell_1 : cX4_sell.data.toList.drop 24 = dktX4_sell_1 := dk_seg dksX4_sell_0 24 rfl rfl
theorem dksX4_sell_2 : cX4_sell.data.toList.drop 47 = dktX4_sell_2 := dk_seg dksX4_sell_1 23 rfl rfl
theorem dksX4_sell_3 : cX4_sell.data.toList.drop 71 = dktX4_sell_3 := dk_seg dksX4_sell_2 24 rfl rfl
theorem dX4_sell_0 : decode cX4_sell 0 = .ok (.aload_n 0, 1) := dk_42 (dk_at dksX4_sell_0 0 rfl rfl)
theorem dX4_sell_1 : decode cX4_sell 1 = .ok (.iload_n 1, 1) := dk_27 (dk_at dksX4_sell_0 1 rfl rfl)
theorem dX4_sell_2 : decode cX4_sell 2 = .ok (.invokevirtual 223, 3) := dk_182 0 223 (dk_at dksX4_sell_0 2 rfl rfl)
theorem dX4_sell_5 : decode cX4_sell 5 = .ok (.ifCond .eq 11, 3) := dk_153 0 11 (dk_at dksX4_sell_0 5 rfl rfl)
theorem dX4_sell_8 : decode cX4_sell 8 = .ok (.aload_n 0, 1) := dk_42 (dk_at dksX4_sell_0 8 rfl rfl)
theorem dX4_sell_9 : decode cX4_sell 9 = .ok (.iload_n 2, 1) := dk_28 (dk_at dksX4_sell_0 9 rfl rfl)
theorem dX4_sell_10 : decode cX4_sell 10 = .ok (.invokevirtual 226, 3) := dk_182 0 226 (dk_at dksX4_sell_0 10 rfl rfl)
theorem dX4_sell_13 : decode cX4_sell 13 = .ok (.ifCond .ne 5, 3) := dk_154 0 5 (dk_at dksX4_sell_0 13 rfl rfl)
theorem dX4_sell_16 : decode cX4_sell 16 = .ok (.iconst (-1), 1) := dk_2 (dk_at dksX4_sell_0 16 rfl rfl)
theorem dX4_sell_17 : decode cX4_sell 17 = .ok (.ireturn, 1) := dk_172 (dk_at dksX4_sell_0 17 rfl rfl)
theorem dX4_sell_18 : decode cX4_sell 18 = .ok (.aload_n 0, 1) := dk_42 (dk_at dksX4_sell_0 18 rfl rfl)
theorem dX4_sell_19 : decode cX4_sell 19 = .ok (.invokevirtual 209, 3) := dk_182 0 209 (dk_at dksX4_sell_0 19 rfl rfl)
theorem dX4_sell_22 : decode cX4_sell 22 = .ok (.aload_n 0, 1) := dk_42 (dk_at dksX4_sell_0 22 rfl rfl)
theorem dX4_sell_23 : decode cX4_sell 23 = .ok (.iload_n 1, 1) := dk_27 (dk_at dksX4_sell_0 23 rfl rfl)
theorem dX4_sell_24 : decode cX4_sell 24 = .ok (.iload_n 2, 1) := dk_28 (dk_at dksX4_sell_1 0 rfl rfl)
theorem dX4_sell_25 : decode cX4_sell 25 = .ok (.invokevirtual 254, 3) := dk_182 0 254 (dk_at dksX4_sell_1 1 rfl rfl)
theorem dX4_sell_28 : decode cX4_sell 28 = .ok (.ifCond .ne 6, 3) := dk_154 0 6 (dk_at dksX4_sell_1 4 rfl rfl)
theorem dX4_sell_31 : decode cX4_sell 31 = .ok (.bipush (-2), 2) := dk_16 254 (dk_at dksX4_sell_1 7 rfl rfl)
theorem dX4_sell_33 : decode cX4_sell 33 = .ok (.ireturn, 1) := dk_172 (dk_at dksX4_sell_1 9 rfl rfl)
theorem dX4_sell_34 : decode cX4_sell 34 = .ok (.aload_n 0, 1) := dk_42 (dk_at dksX4_sell_1 10 rfl rfl)
theorem dX4_sell_35 : decode cX4_sell 35 = .ok (.getfield 7, 3) := dk_180 0 7 (dk_at dksX4_sell_1 11 rfl rfl)
theorem dX4_sell_38 : decode cX4_sell 38 = .ok (.bipush 8, 2) := dk_16 8 (dk_at dksX4_sell_1 14 rfl rfl)
theorem dX4_sell_40 : decode cX4_sell 40 = .ok (.bipush 9, 2) := dk_16 9 (dk_at dksX4_sell_1 16 rfl rfl)
theorem dX4_sell_42 : decode cX4_sell 42 = .ok (.iload_n 1, 1) := dk_27 (dk_at dksX4_sell_1 18 rfl rfl)
theorem dX4_sell_43 : decode cX4_sell 43 = .ok (.imul, 1) := dk_104 (dk_at dksX4_sell_1 19 rfl rfl)
theorem dX4_sell_44 : decode cX4_sell 44 = .ok (.iadd, 1) := dk_96 (dk_at dksX4_sell_1 20 rfl rfl)
theorem dX4_sell_45 : decode cX4_sell 45 = .ok (.iconst 2, 1) := dk_5 (dk_at dksX4_sell_1 21 rfl rfl)
theorem dX4_sell_46 : decode cX4_sell 46 = .ok (.iadd, 1) := dk_96 (dk_at dksX4_sell_1 22 rfl rfl)
theorem dX4_sell_47 : decode cX4_sell 47 = .ok (.bipush (-4), 2) := dk_16 252 (dk_at dksX4_sell_2 0 rfl rfl)
theorem dX4_sell_49 : decode cX4_sell 49 = .ok (.iastore, 1) := dk_79 (dk_at dksX4_sell_2 2 rfl rfl)
theorem dX4_sell_50 : decode cX4_sell 50 = .ok (.aload_n 0, 1) := dk_42 (dk_at dksX4_sell_2 3 rfl rfl)
theorem dX4_sell_51 : decode cX4_sell 51 = .ok (.getfield 7, 3) := dk_180 0 7 (dk_at dksX4_sell_2 4 rfl rfl)
theorem dX4_sell_54 : decode cX4_sell 54 = .ok (.bipush 53, 2) := dk_16 53 (dk_at dksX4_sell_2 7 rfl rfl)
theorem dX4_sell_56 : decode cX4_sell 56 = .ok (.dup2, 1) := dk_92 (dk_at dksX4_sell_2 9 rfl rfl)
theorem dX4_sell_57 : decode cX4_sell 57 = .ok (.iaload, 1) := dk_46 (dk_at dksX4_sell_2 10 rfl rfl)
theorem dX4_sell_58 : decode cX4_sell 58 = .ok (.iconst 1, 1) := dk_4 (dk_at dksX4_sell_2 11 rfl rfl)
theorem dX4_sell_59 : decode cX4_sell 59 = .ok (.iload_n 2, 1) := dk_28 (dk_at dksX4_sell_2 12 rfl rfl)
theorem dX4_sell_60 : decode cX4_sell 60 = .ok (.ishl, 1) := dk_120 (dk_at dksX4_sell_2 13 rfl rfl)
theorem dX4_sell_61 : decode cX4_sell 61 = .ok (.ior, 1) := dk_128 (dk_at dksX4_sell_2 14 rfl rfl)
theorem dX4_sell_62 : decode cX4_sell 62 = .ok (.iastore, 1) := dk_79 (dk_at dksX4_sell_2 15 rfl rfl)
theorem dX4_sell_63 : decode cX4_sell 63 = .ok (.aload_n 0, 1) := dk_42 (dk_at dksX4_sell_2 16 rfl rfl)
theorem dX4_sell_64 : decode cX4_sell 64 = .ok (.getfield 7, 3) := dk_180 0 7 (dk_at dksX4_sell_2 17 rfl rfl)
theorem dX4_sell_67 : decode cX4_sell 67 = .ok (.bipush 55, 2) := dk_16 55 (dk_at dksX4_sell_2 20 rfl rfl)
theorem dX4_sell_69 : decode cX4_sell 69 = .ok (.dup2, 1) := dk_92 (dk_at dksX4_sell_2 22 rfl rfl)
theorem dX4_sell_70 : decode cX4_sell 70 = .ok (.iaload, 1) := dk_46 (dk_at dksX4_sell_2 23 rfl rfl)
theorem dX4_sell_71 : decode cX4_sell 71 = .ok (.aload_n 0, 1) := dk_42 (dk_at dksX4_sell_3 0 rfl rfl)
theorem dX4_sell_72 : decode cX4_sell 72 = .ok (.getfield 20, 3) := dk_180 0 20 (dk_at dksX4_sell_3 1 rfl rfl)
theorem dX4_sell_75 : decode cX4_sell 75 = .ok (.bipush 8, 2) := dk_16 8 (dk_at dksX4_sell_3 4 rfl rfl)
theorem dX4_sell_77 : decode cX4_sell 77 = .ok (.iload_n 2, 1) := dk_28 (dk_at dksX4_sell_3 6 rfl rfl)
theorem dX4_sell_78 : decode cX4_sell 78 = .ok (.imul, 1) := dk_104 (dk_at dksX4_sell_3 7 rfl rfl)
theorem dX4_sell_79 : decode cX4_sell 79 = .ok (.bipush 7, 2) := dk_16 7 (dk_at dksX4_sell_3 8 rfl rfl)
theorem dX4_sell_81 : decode cX4_sell 81 = .ok (.iadd, 1) := dk_96 (dk_at dksX4_sell_3 10 rfl rfl)
theorem dX4_sell_82 : decode cX4_sell 82 = .ok (.iaload, 1) := dk_46 (dk_at dksX4_sell_3 11 rfl rfl)
theorem dX4_sell_83 : decode cX4_sell 83 = .ok (.iadd, 1) := dk_96 (dk_at dksX4_sell_3 12 rfl rfl)
theorem dX4_sell_84 : decode cX4_sell 84 = .ok (.iastore, 1) := dk_79 (dk_at dksX4_sell_3 13 rfl rfl)
theorem dX4_sell_85 : decode cX4_sell 85 = .ok (.aload_n 0, 1) := dk_42 (dk_at dksX4_sell_3 14 rfl rfl)
theorem dX4_sell_86 : decode cX4_sell 86 = .ok (.getfield 7, 3) := dk_180 0 7 (dk_at dksX4_sell_3 15 rfl rfl)
theorem dX4_sell_89 : decode cX4_sell 89 = .ok (.bipush 55, 2) := dk_16 55 (dk_at dksX4_sell_3 18 rfl rfl)
theorem dX4_sell_91 : decode cX4_sell 91 = .ok (.iaload, 1) := dk_46 (dk_at dksX4_sell_3 20 rfl rfl)
theorem dX4_sell_92 : decode cX4_sell 92 = .ok (.ireturn, 1) := dk_172 (dk_at dksX4_sell_3 21 rfl rfl)
abbrev cX4_sale : ByteArray := prog_13_method_76_code
def yX4_sale : MethodName := ⟨RX4, "sale", "(I)I"⟩
def dkwX4_sale_2 : List UInt8 := [156, 0, 8, 16, 252, 167, 0, 4, 29, 172]
abbrev dktX4_sale_2 : List UInt8 := dkwX4_sale_2 ++ []
def dkwX4_sale_1 : List UInt8 := [182, 1, 19, 61, 27, 154, 0, 5, 28, 172, 42, 42, 180, 1, 16, 27, 16, 10, 100, 182, 1, 22, 62, 29]
abbrev dktX4_sale_1 : List UInt8 := dkwX4_sale_1 ++ dktX4_sale_2
def dkwX4_sale_0 : List UInt8 := [27, 153, 0, 16, 42, 27, 16, 10, 100, 182, 0, 226, 154, 0, 5, 2, 172, 42, 182, 0, 209, 42]
abbrev dktX4_sale_0 : List UInt8 := dkwX4_sale_0 ++ dktX4_sale_1
theorem dksX4_sale_0 : cX4_sale.data.toList.drop 0 = dktX4_sale_0 := by decide +kernel
theorem dksX4_sale_1 : cX4_sale.data.toList.drop 22 = dktX4_sale_1 := dk_seg dksX4_sale_0 22 rfl rfl
theorem dksX4_sale_2 : cX4_sale.data.toList.drop 46 = dktX4_sale_2 := dk_seg dksX4_sale_1 24 rfl rfl
theorem dX4_sale_0 : decode cX4_sale 0 = .ok (.iload_n 1, 1) := dk_27 (dk_at dksX4_sale_0 0 rfl rfl)
theorem dX4_sale_1 : decode cX4_sale 1 = .ok (.ifCond .eq 16, 3) := dk_153 0 16 (dk_at dksX4_sale_0 1 rfl rfl)
theorem dX4_sale_4 : decode cX4_sale 4 = .ok (.aload_n 0, 1) := dk_42 (dk_at dksX4_sale_0 4 rfl rfl)
theorem dX4_sale_5 : decode cX4_sale 5 = .ok (.iload_n 1, 1) := dk_27 (dk_at dksX4_sale_0 5 rfl rfl)
theorem dX4_sale_6 : decode cX4_sale 6 = .ok (.bipush 10, 2) := dk_16 10 (dk_at dksX4_sale_0 6 rfl rfl)
theorem dX4_sale_8 : decode cX4_sale 8 = .ok (.isub, 1) := dk_100 (dk_at dksX4_sale_0 8 rfl rfl)
theorem dX4_sale_9 : decode cX4_sale 9 = .ok (.invokevirtual 226, 3) := dk_182 0 226 (dk_at dksX4_sale_0 9 rfl rfl)
theorem dX4_sale_12 : decode cX4_sale 12 = .ok (.ifCond .ne 5, 3) := dk_154 0 5 (dk_at dksX4_sale_0 12 rfl rfl)
theorem dX4_sale_15 : decode cX4_sale 15 = .ok (.iconst (-1), 1) := dk_2 (dk_at dksX4_sale_0 15 rfl rfl)
theorem dX4_sale_16 : decode cX4_sale 16 = .ok (.ireturn, 1) := dk_172 (dk_at dksX4_sale_0 16 rfl rfl)
theorem dX4_sale_17 : decode cX4_sale 17 = .ok (.aload_n 0, 1) := dk_42 (dk_at dksX4_sale_0 17 rfl rfl)
theorem dX4_sale_18 : decode cX4_sale 18 = .ok (.invokevirtual 209, 3) := dk_182 0 209 (dk_at dksX4_sale_0 18 rfl rfl)
theorem dX4_sale_21 : decode cX4_sale 21 = .ok (.aload_n 0, 1) := dk_42 (dk_at dksX4_sale_0 21 rfl rfl)
theorem dX4_sale_22 : decode cX4_sale 22 = .ok (.invokevirtual 275, 3) := dk_182 1 19 (dk_at dksX4_sale_1 0 rfl rfl)
theorem dX4_sale_25 : decode cX4_sale 25 = .ok (.istore_n 2, 1) := dk_61 (dk_at dksX4_sale_1 3 rfl rfl)
theorem dX4_sale_26 : decode cX4_sale 26 = .ok (.iload_n 1, 1) := dk_27 (dk_at dksX4_sale_1 4 rfl rfl)
theorem dX4_sale_27 : decode cX4_sale 27 = .ok (.ifCond .ne 5, 3) := dk_154 0 5 (dk_at dksX4_sale_1 5 rfl rfl)
theorem dX4_sale_30 : decode cX4_sale 30 = .ok (.iload_n 2, 1) := dk_28 (dk_at dksX4_sale_1 8 rfl rfl)
theorem dX4_sale_31 : decode cX4_sale 31 = .ok (.ireturn, 1) := dk_172 (dk_at dksX4_sale_1 9 rfl rfl)
theorem dX4_sale_32 : decode cX4_sale 32 = .ok (.aload_n 0, 1) := dk_42 (dk_at dksX4_sale_1 10 rfl rfl)
theorem dX4_sale_33 : decode cX4_sale 33 = .ok (.aload_n 0, 1) := dk_42 (dk_at dksX4_sale_1 11 rfl rfl)
theorem dX4_sale_34 : decode cX4_sale 34 = .ok (.getfield 272, 3) := dk_180 1 16 (dk_at dksX4_sale_1 12 rfl rfl)
theorem dX4_sale_37 : decode cX4_sale 37 = .ok (.iload_n 1, 1) := dk_27 (dk_at dksX4_sale_1 15 rfl rfl)
theorem dX4_sale_38 : decode cX4_sale 38 = .ok (.bipush 10, 2) := dk_16 10 (dk_at dksX4_sale_1 16 rfl rfl)
theorem dX4_sale_40 : decode cX4_sale 40 = .ok (.isub, 1) := dk_100 (dk_at dksX4_sale_1 18 rfl rfl)
theorem dX4_sale_41 : decode cX4_sale 41 = .ok (.invokevirtual 278, 3) := dk_182 1 22 (dk_at dksX4_sale_1 19 rfl rfl)
theorem dX4_sale_44 : decode cX4_sale 44 = .ok (.istore_n 3, 1) := dk_62 (dk_at dksX4_sale_1 22 rfl rfl)
theorem dX4_sale_45 : decode cX4_sale 45 = .ok (.iload_n 3, 1) := dk_29 (dk_at dksX4_sale_1 23 rfl rfl)
theorem dX4_sale_46 : decode cX4_sale 46 = .ok (.ifCond .ge 8, 3) := dk_156 0 8 (dk_at dksX4_sale_2 0 rfl rfl)
theorem dX4_sale_49 : decode cX4_sale 49 = .ok (.bipush (-4), 2) := dk_16 252 (dk_at dksX4_sale_2 3 rfl rfl)
theorem dX4_sale_51 : decode cX4_sale 51 = .ok (.goto 4, 3) := dk_167 0 4 (dk_at dksX4_sale_2 5 rfl rfl)
theorem dX4_sale_54 : decode cX4_sale 54 = .ok (.iload_n 3, 1) := dk_29 (dk_at dksX4_sale_2 8 rfl rfl)
theorem dX4_sale_55 : decode cX4_sale 55 = .ok (.ireturn, 1) := dk_172 (dk_at dksX4_sale_2 9 rfl rfl)
abbrev cX4_bestSale : ByteArray := prog_13_method_75_code
def yX4_bestSale : MethodName := ⟨RX4, "bestSale", "()I"⟩
def dkwX4_bestSale_2 : List UInt8 := [164, 0, 7, 29, 167, 0, 4, 27, 60, 132, 2, 1, 167, 255, 206, 27, 172]
abbrev dktX4_bestSale_2 : List UInt8 := dkwX4_bestSale_2 ++ []
def dkwX4_bestSale_1 : List UInt8 := [182, 1, 13, 62, 42, 29, 27, 164, 0, 7, 28, 167, 0, 7, 42, 180, 1, 16, 181, 1, 16, 29, 27]
abbrev dktX4_bestSale_1 : List UInt8 := dkwX4_bestSale_1 ++ dktX4_bestSale_2
def dkwX4_bestSale_0 : List UInt8 := [2, 60, 42, 182, 1, 10, 3, 61, 28, 16, 6, 42, 180, 0, 75, 184, 1, 7, 162, 0, 43, 42, 28]
abbrev dktX4_bestSale_0 : List UInt8 := dkwX4_bestSale_0 ++ dktX4_bestSale_1
theorem dksX4_bestSale_0 : cX4_bestSale.data.toList.drop 0 = dktX4_bestSale_0 := by decide +kernel
theorem dksX4_bestSale_1 : cX4_bestSale.data.toList.drop 23 = dktX4_bestSale_1 := dk_seg dksX4_bestSale_0 23 rfl rfl
theorem dksX4_bestSale_2 : cX4_bestSale.data.toList.drop 46 = dktX4_bestSale_2 := dk_seg dksX4_bestSale_1 23 rfl rfl
theorem dX4_bestSale_0 : decode cX4_bestSale 0 = .ok (.iconst (-1), 1) := dk_2 (dk_at dksX4_bestSale_0 0 rfl rfl)
theorem dX4_bestSale_1 : decode cX4_bestSale 1 = .ok (.istore_n 1, 1) := dk_60 (dk_at dksX4_bestSale_0 1 rfl rfl)
theorem dX4_bestSale_2 : decode cX4_bestSale 2 = .ok (.aload_n 0, 1) := dk_42 (dk_at dksX4_bestSale_0 2 rfl rfl)
theorem dX4_bestSale_3 : decode cX4_bestSale 3 = .ok (.invokevirtual 266, 3) := dk_182 1 10 (dk_at dksX4_bestSale_0 3 rfl rfl)
theorem dX4_bestSale_6 : decode cX4_bestSale 6 = .ok (.iconst 0, 1) := dk_3 (dk_at dksX4_bestSale_0 6 rfl rfl)
theorem dX4_bestSale_7 : decode cX4_bestSale 7 = .ok (.istore_n 2, 1) := dk_61 (dk_at dksX4_bestSale_0 7 rfl rfl)
theorem dX4_bestSale_8 : decode cX4_bestSale 8 = .ok (.iload_n 2, 1) := dk_28 (dk_at dksX4_bestSale_0 8 rfl rfl)
theorem dX4_bestSale_9 : decode cX4_bestSale 9 = .ok (.bipush 6, 2) := dk_16 6 (dk_at dksX4_bestSale_0 9 rfl rfl)
theorem dX4_bestSale_11 : decode cX4_bestSale 11 = .ok (.aload_n 0, 1) := dk_42 (dk_at dksX4_bestSale_0 11 rfl rfl)
theorem dX4_bestSale_12 : decode cX4_bestSale 12 = .ok (.getfield 75, 3) := dk_180 0 75 (dk_at dksX4_bestSale_0 12 rfl rfl)
theorem dX4_bestSale_15 : decode cX4_bestSale 15 = .ok (.invokestatic 263, 3) := dk_184 1 7 (dk_at dksX4_bestSale_0 15 rfl rfl)
theorem dX4_bestSale_18 : decode cX4_bestSale 18 = .ok (.if_icmp .ge 43, 3) := dk_162 0 43 (dk_at dksX4_bestSale_0 18 rfl rfl)
theorem dX4_bestSale_21 : decode cX4_bestSale 21 = .ok (.aload_n 0, 1) := dk_42 (dk_at dksX4_bestSale_0 21 rfl rfl)
theorem dX4_bestSale_22 : decode cX4_bestSale 22 = .ok (.iload_n 2, 1) := dk_28 (dk_at dksX4_bestSale_0 22 rfl rfl)
theorem dX4_bestSale_23 : decode cX4_bestSale 23 = .ok (.invokevirtual 269, 3) := dk_182 1 13 (dk_at dksX4_bestSale_1 0 rfl rfl)
theorem dX4_bestSale_26 : decode cX4_bestSale 26 = .ok (.istore_n 3, 1) := dk_62 (dk_at dksX4_bestSale_1 3 rfl rfl)
theorem dX4_bestSale_27 : decode cX4_bestSale 27 = .ok (.aload_n 0, 1) := dk_42 (dk_at dksX4_bestSale_1 4 rfl rfl)
theorem dX4_bestSale_28 : decode cX4_bestSale 28 = .ok (.iload_n 3, 1) := dk_29 (dk_at dksX4_bestSale_1 5 rfl rfl)
theorem dX4_bestSale_29 : decode cX4_bestSale 29 = .ok (.iload_n 1, 1) := dk_27 (dk_at dksX4_bestSale_1 6 rfl rfl)
theorem dX4_bestSale_30 : decode cX4_bestSale 30 = .ok (.if_icmp .le 7, 3) := dk_164 0 7 (dk_at dksX4_bestSale_1 7 rfl rfl)
theorem dX4_bestSale_33 : decode cX4_bestSale 33 = .ok (.iload_n 2, 1) := dk_28 (dk_at dksX4_bestSale_1 10 rfl rfl)
theorem dX4_bestSale_34 : decode cX4_bestSale 34 = .ok (.goto 7, 3) := dk_167 0 7 (dk_at dksX4_bestSale_1 11 rfl rfl)
theorem dX4_bestSale_37 : decode cX4_bestSale 37 = .ok (.aload_n 0, 1) := dk_42 (dk_at dksX4_bestSale_1 14 rfl rfl)
theorem dX4_bestSale_38 : decode cX4_bestSale 38 = .ok (.getfield 272, 3) := dk_180 1 16 (dk_at dksX4_bestSale_1 15 rfl rfl)
theorem dX4_bestSale_41 : decode cX4_bestSale 41 = .ok (.putfield 272, 3) := dk_181 1 16 (dk_at dksX4_bestSale_1 18 rfl rfl)
theorem dX4_bestSale_44 : decode cX4_bestSale 44 = .ok (.iload_n 3, 1) := dk_29 (dk_at dksX4_bestSale_1 21 rfl rfl)
theorem dX4_bestSale_45 : decode cX4_bestSale 45 = .ok (.iload_n 1, 1) := dk_27 (dk_at dksX4_bestSale_1 22 rfl rfl)
theorem dX4_bestSale_46 : decode cX4_bestSale 46 = .ok (.if_icmp .le 7, 3) := dk_164 0 7 (dk_at dksX4_bestSale_2 0 rfl rfl)
theorem dX4_bestSale_49 : decode cX4_bestSale 49 = .ok (.iload_n 3, 1) := dk_29 (dk_at dksX4_bestSale_2 3 rfl rfl)
theorem dX4_bestSale_50 : decode cX4_bestSale 50 = .ok (.goto 4, 3) := dk_167 0 4 (dk_at dksX4_bestSale_2 4 rfl rfl)
theorem dX4_bestSale_53 : decode cX4_bestSale 53 = .ok (.iload_n 1, 1) := dk_27 (dk_at dksX4_bestSale_2 7 rfl rfl)
theorem dX4_bestSale_54 : decode cX4_bestSale 54 = .ok (.istore_n 1, 1) := dk_60 (dk_at dksX4_bestSale_2 8 rfl rfl)
theorem dX4_bestSale_55 : decode cX4_bestSale 55 = .ok (.iinc 2 1, 3) := dk_132 2 1 (dk_at dksX4_bestSale_2 9 rfl rfl)
theorem dX4_bestSale_58 : decode cX4_bestSale 58 = .ok (.goto (-50), 3) := dk_167 255 206 (dk_at dksX4_bestSale_2 12 rfl rfl)
theorem dX4_bestSale_61 : decode cX4_bestSale 61 = .ok (.iload_n 1, 1) := dk_27 (dk_at dksX4_bestSale_2 15 rfl rfl)
theorem dX4_bestSale_62 : decode cX4_bestSale 62 = .ok (.ireturn, 1) := dk_172 (dk_at dksX4_bestSale_2 16 rfl rfl)
abbrev cX4_findMeeting : ByteArray := prog_13_method_73_code
def yX4_findMeeting : MethodName := ⟨RX4, "findMeeting", "()V"⟩
def dkwX4_findMeeting_2 : List UInt8 := [132, 2, 1, 167, 255, 225, 132, 1, 1, 167, 255, 202, 177]
abbrev dktX4_findMeeting_2 : List UInt8 := dkwX4_findMeeting_2 ++ []
def dkwX4_findMeeting_1 : List UInt8 := [162, 0, 29, 42, 180, 0, 32, 27, 92, 46, 42, 28, 27, 182, 0, 254, 184, 0, 154, 28, 120, 128, 79]
abbrev dktX4_findMeeting_1 : List UInt8 := dkwX4_findMeeting_1 ++ dktX4_findMeeting_2
def dkwX4_findMeeting_0 : List UInt8 := [3, 60, 27, 42, 180, 0, 75, 162, 0, 52, 42, 180, 0, 32, 27, 3, 79, 3, 61, 28, 42, 180, 0, 72]
abbrev dktX4_findMeeting_0 : List UInt8 := dkwX4_findMeeting_0 ++ dktX4_findMeeting_1
theorem dksX4_findMeeting_0 : cX4_findMeeting.data.toList.drop 0 = dktX4_findMeeting_0 := by decide +kernel
theorem dksX4_findMeeting_1 : cX4_findMeeting.data.toList.drop 24 = dktX4_findMeeting_1 := dk_seg dksX4_findMeeting_0 24 rfl rfl
theorem dksX4_findMeeting_2 : cX4_findMeeting.data.toList.drop 47 = dktX4_findMeeting_2 := dk_seg dksX4_findMeeting_1 23 rfl rfl
theorem dX4_findMeeting_0 : decode cX4_findMeeting 0 = .ok (.iconst 0, 1) := dk_3 (dk_at dksX4_findMeeting_0 0 rfl rfl)
theorem dX4_findMeeting_1 : decode cX4_findMeeting 1 = .ok (.istore_n 1, 1) := dk_60 (dk_at dksX4_findMeeting_0 1 rfl rfl)
theorem dX4_findMeeting_2 : decode cX4_findMeeting 2 = .ok (.iload_n 1, 1) := dk_27 (dk_at dksX4_findMeeting_0 2 rfl rfl)
theorem dX4_findMeeting_3 : decode cX4_findMeeting 3 = .ok (.aload_n 0, 1) := dk_42 (dk_at dksX4_findMeeting_0 3 rfl rfl)
theorem dX4_findMeeting_4 : decode cX4_findMeeting 4 = .ok (.getfield 75, 3) := dk_180 0 75 (dk_at dksX4_findMeeting_0 4 rfl rfl)
theorem dX4_findMeeting_7 : decode cX4_findMeeting 7 = .ok (.if_icmp .ge 52, 3) := dk_162 0 52 (dk_at dksX4_findMeeting_0 7 rfl rfl)
theorem dX4_findMeeting_10 : decode cX4_findMeeting 10 = .ok (.aload_n 0, 1) := dk_42 (dk_at dksX4_findMeeting_0 10 rfl rfl)
theorem dX4_findMeeting_11 : decode cX4_findMeeting 11 = .ok (.getfield 32, 3) := dk_180 0 32 (dk_at dksX4_findMeeting_0 11 rfl rfl)
theorem dX4_findMeeting_14 : decode cX4_findMeeting 14 = .ok (.iload_n 1, 1) := dk_27 (dk_at dksX4_findMeeting_0 14 rfl rfl)
theorem dX4_findMeeting_15 : decode cX4_findMeeting 15 = .ok (.iconst 0, 1) := dk_3 (dk_at dksX4_findMeeting_0 15 rfl rfl)
theorem dX4_findMeeting_16 : decode cX4_findMeeting 16 = .ok (.iastore, 1) := dk_79 (dk_at dksX4_findMeeting_0 16 rfl rfl)
theorem dX4_findMeeting_17 : decode cX4_findMeeting 17 = .ok (.iconst 0, 1) := dk_3 (dk_at dksX4_findMeeting_0 17 rfl rfl)
theorem dX4_findMeeting_18 : decode cX4_findMeeting 18 = .ok (.istore_n 2, 1) := dk_61 (dk_at dksX4_findMeeting_0 18 rfl rfl)
theorem dX4_findMeeting_19 : decode cX4_findMeeting 19 = .ok (.iload_n 2, 1) := dk_28 (dk_at dksX4_findMeeting_0 19 rfl rfl)
theorem dX4_findMeeting_20 : decode cX4_findMeeting 20 = .ok (.aload_n 0, 1) := dk_42 (dk_at dksX4_findMeeting_0 20 rfl rfl)
theorem dX4_findMeeting_21 : decode cX4_findMeeting 21 = .ok (.getfield 72, 3) := dk_180 0 72 (dk_at dksX4_findMeeting_0 21 rfl rfl)
theorem dX4_findMeeting_24 : decode cX4_findMeeting 24 = .ok (.if_icmp .ge 29, 3) := dk_162 0 29 (dk_at dksX4_findMeeting_1 0 rfl rfl)
theorem dX4_findMeeting_27 : decode cX4_findMeeting 27 = .ok (.aload_n 0, 1) := dk_42 (dk_at dksX4_findMeeting_1 3 rfl rfl)
theorem dX4_findMeeting_28 : decode cX4_findMeeting 28 = .ok (.getfield 32, 3) := dk_180 0 32 (dk_at dksX4_findMeeting_1 4 rfl rfl)
theorem dX4_findMeeting_31 : decode cX4_findMeeting 31 = .ok (.iload_n 1, 1) := dk_27 (dk_at dksX4_findMeeting_1 7 rfl rfl)
theorem dX4_findMeeting_32 : decode cX4_findMeeting 32 = .ok (.dup2, 1) := dk_92 (dk_at dksX4_findMeeting_1 8 rfl rfl)
theorem dX4_findMeeting_33 : decode cX4_findMeeting 33 = .ok (.iaload, 1) := dk_46 (dk_at dksX4_findMeeting_1 9 rfl rfl)
theorem dX4_findMeeting_34 : decode cX4_findMeeting 34 = .ok (.aload_n 0, 1) := dk_42 (dk_at dksX4_findMeeting_1 10 rfl rfl)
theorem dX4_findMeeting_35 : decode cX4_findMeeting 35 = .ok (.iload_n 2, 1) := dk_28 (dk_at dksX4_findMeeting_1 11 rfl rfl)
theorem dX4_findMeeting_36 : decode cX4_findMeeting 36 = .ok (.iload_n 1, 1) := dk_27 (dk_at dksX4_findMeeting_1 12 rfl rfl)
theorem dX4_findMeeting_37 : decode cX4_findMeeting 37 = .ok (.invokevirtual 254, 3) := dk_182 0 254 (dk_at dksX4_findMeeting_1 13 rfl rfl)
theorem dX4_findMeeting_40 : decode cX4_findMeeting 40 = .ok (.invokestatic 154, 3) := dk_184 0 154 (dk_at dksX4_findMeeting_1 16 rfl rfl)
theorem dX4_findMeeting_43 : decode cX4_findMeeting 43 = .ok (.iload_n 2, 1) := dk_28 (dk_at dksX4_findMeeting_1 19 rfl rfl)
theorem dX4_findMeeting_44 : decode cX4_findMeeting 44 = .ok (.ishl, 1) := dk_120 (dk_at dksX4_findMeeting_1 20 rfl rfl)
theorem dX4_findMeeting_45 : decode cX4_findMeeting 45 = .ok (.ior, 1) := dk_128 (dk_at dksX4_findMeeting_1 21 rfl rfl)
theorem dX4_findMeeting_46 : decode cX4_findMeeting 46 = .ok (.iastore, 1) := dk_79 (dk_at dksX4_findMeeting_1 22 rfl rfl)
theorem dX4_findMeeting_47 : decode cX4_findMeeting 47 = .ok (.iinc 2 1, 3) := dk_132 2 1 (dk_at dksX4_findMeeting_2 0 rfl rfl)
theorem dX4_findMeeting_50 : decode cX4_findMeeting 50 = .ok (.goto (-31), 3) := dk_167 255 225 (dk_at dksX4_findMeeting_2 3 rfl rfl)
theorem dX4_findMeeting_53 : decode cX4_findMeeting 53 = .ok (.iinc 1 1, 3) := dk_132 1 1 (dk_at dksX4_findMeeting_2 6 rfl rfl)
theorem dX4_findMeeting_56 : decode cX4_findMeeting 56 = .ok (.goto (-54), 3) := dk_167 255 202 (dk_at dksX4_findMeeting_2 9 rfl rfl)
theorem dX4_findMeeting_59 : decode cX4_findMeeting 59 = .ok (.return_, 1) := dk_177 (dk_at dksX4_findMeeting_2 12 rfl rfl)
abbrev cX4_power : ByteArray := prog_13_method_71_code
def yX4_power : MethodName := ⟨RX4, "power", "(II)I"⟩
def dkwX4_power_0 : List UInt8 := [4, 61, 3, 62, 29, 27, 162, 0, 13, 28, 26, 104, 61, 132, 3, 1, 167, 255, 244, 28, 172]
abbrev dktX4_power_0 : List UInt8 := dkwX4_power_0 ++ []
theorem dksX4_power_0 : cX4_power.data.toList.drop 0 = dktX4_power_0 := by decide +kernel
theorem dX4_power_0 : decode cX4_power 0 = .ok (.iconst 1, 1) := dk_4 (dk_at dksX4_power_0 0 rfl rfl)
theorem dX4_power_1 : decode cX4_power 1 = .ok (.istore_n 2, 1) := dk_61 (dk_at dksX4_power_0 1 rfl rfl)
theorem dX4_power_2 : decode cX4_power 2 = .ok (.iconst 0, 1) := dk_3 (dk_at dksX4_power_0 2 rfl rfl)
theorem dX4_power_3 : decode cX4_power 3 = .ok (.istore_n 3, 1) := dk_62 (dk_at dksX4_power_0 3 rfl rfl)
theorem dX4_power_4 : decode cX4_power 4 = .ok (.iload_n 3, 1) := dk_29 (dk_at dksX4_power_0 4 rfl rfl)
theorem dX4_power_5 : decode cX4_power 5 = .ok (.iload_n 1, 1) := dk_27 (dk_at dksX4_power_0 5 rfl rfl)
theorem dX4_power_6 : decode cX4_power 6 = .ok (.if_icmp .ge 13, 3) := dk_162 0 13 (dk_at dksX4_power_0 6 rfl rfl)
theorem dX4_power_9 : decode cX4_power 9 = .ok (.iload_n 2, 1) := dk_28 (dk_at dksX4_power_0 9 rfl rfl)
theorem dX4_power_10 : decode cX4_power 10 = .ok (.iload_n 0, 1) := dk_26 (dk_at dksX4_power_0 10 rfl rfl)
theorem dX4_power_11 : decode cX4_power 11 = .ok (.imul, 1) := dk_104 (dk_at dksX4_power_0 11 rfl rfl)
theorem dX4_power_12 : decode cX4_power 12 = .ok (.istore_n 2, 1) := dk_61 (dk_at dksX4_power_0 12 rfl rfl)
theorem dX4_power_13 : decode cX4_power 13 = .ok (.iinc 3 1, 3) := dk_132 3 1 (dk_at dksX4_power_0 13 rfl rfl)
theorem dX4_power_16 : decode cX4_power 16 = .ok (.goto (-12), 3) := dk_167 255 244 (dk_at dksX4_power_0 16 rfl rfl)
theorem dX4_power_19 : decode cX4_power 19 = .ok (.iload_n 2, 1) := dk_28 (dk_at dksX4_power_0 19 rfl rfl)
theorem dX4_power_20 : decode cX4_power 20 = .ok (.ireturn, 1) := dk_172 (dk_at dksX4_power_0 20 rfl rfl)
abbrev cX4_earned : ByteArray := prog_13_method_74_code
def yX4_earned : MethodName := ⟨RX4, "earned", "(I)I"⟩
def dkwX4_earned_4 : List UInt8 := [167, 255, 176, 29, 172]
abbrev dktX4_earned_4 : List UInt8 := dkwX4_earned_4 ++ []
def dkwX4_earned_3 : List UInt8 := [120, 128, 54, 4, 29, 42, 180, 0, 20, 16, 8, 21, 5, 104, 16, 7, 96, 46, 96, 62, 132, 5, 255]
abbrev dktX4_earned_3 : List UInt8 := dkwX4_earned_3 ++ dktX4_earned_4
def dkwX4_earned_2 : List UInt8 := [4, 126, 153, 0, 14, 21, 4, 21, 6, 122, 4, 126, 4, 160, 0, 6, 16, 252, 172, 21, 4, 4, 21, 6]
abbrev dktX4_earned_2 : List UInt8 := dkwX4_earned_2 ++ dktX4_earned_3
def dkwX4_earned_1 : List UInt8 := [4, 100, 54, 6, 28, 16, 6, 108, 61, 21, 6, 155, 0, 57, 42, 180, 0, 32, 21, 5, 46, 21, 6, 122]
abbrev dktX4_earned_1 : List UInt8 := dkwX4_earned_1 ++ dktX4_earned_2
def dkwX4_earned_0 : List UInt8 := [27, 61, 3, 62, 3, 54, 4, 42, 180, 0, 75, 4, 100, 54, 5, 21, 5, 155, 0, 81, 28, 16, 6, 112]
abbrev dktX4_earned_0 : List UInt8 := dkwX4_earned_0 ++ dktX4_earned_1
theorem dksX4_earned_0 : cX4_earned.data.toList.drop 0 = dktX4_earned_0 := by decide +kernel
theorem dksX4_earned_1 : cX4_earned.data.toList.drop 24 = dktX4_earned_1 := dk_seg dksX4_earned_0 24 rfl rfl
theorem dksX4_earned_2 : cX4_earned.data.toList.drop 48 = dktX4_earned_2 := dk_seg dksX4_earned_1 24 rfl rfl
theorem dksX4_earned_3 : cX4_earned.data.toList.drop 72 = dktX4_earned_3 := dk_seg dksX4_earned_2 24 rfl rfl
theorem dksX4_earned_4 : cX4_earned.data.toList.drop 95 = dktX4_earned_4 := dk_seg dksX4_earned_3 23 rfl rfl
theorem dX4_earned_0 : decode cX4_earned 0 = .ok (.iload_n 1, 1) := dk_27 (dk_at dksX4_earned_0 0 rfl rfl)
theorem dX4_earned_1 : decode cX4_earned 1 = .ok (.istore_n 2, 1) := dk_61 (dk_at dksX4_earned_0 1 rfl rfl)
theorem dX4_earned_2 : decode cX4_earned 2 = .ok (.iconst 0, 1) := dk_3 (dk_at dksX4_earned_0 2 rfl rfl)
theorem dX4_earned_3 : decode cX4_earned 3 = .ok (.istore_n 3, 1) := dk_62 (dk_at dksX4_earned_0 3 rfl rfl)
theorem dX4_earned_4 : decode cX4_earned 4 = .ok (.iconst 0, 1) := dk_3 (dk_at dksX4_earned_0 4 rfl rfl)
theorem dX4_earned_5 : decode cX4_earned 5 = .ok (.istore 4, 2) := dk_54 4 (dk_at dksX4_earned_0 5 rfl rfl)
theorem dX4_earned_7 : decode cX4_earned 7 = .ok (.aload_n 0, 1) := dk_42 (dk_at dksX4_earned_0 7 rfl rfl)
theorem dX4_earned_8 : decode cX4_earned 8 = .ok (.getfield 75, 3) := dk_180 0 75 (dk_at dksX4_earned_0 8 rfl rfl)
theorem dX4_earned_11 : decode cX4_earned 11 = .ok (.iconst 1, 1) := dk_4 (dk_at dksX4_earned_0 11 rfl rfl)
theorem dX4_earned_12 : decode cX4_earned 12 = .ok (.isub, 1) := dk_100 (dk_at dksX4_earned_0 12 rfl rfl)
theorem dX4_earned_13 : decode cX4_earned 13 = .ok (.istore 5, 2) := dk_54 5 (dk_at dksX4_earned_0 13 rfl rfl)
theorem dX4_earned_15 : decode cX4_earned 15 = .ok (.iload 5, 2) := dk_21 5 (dk_at dksX4_earned_0 15 rfl rfl)
theorem dX4_earned_17 : decode cX4_earned 17 = .ok (.ifCond .lt 81, 3) := dk_155 0 81 (dk_at dksX4_earned_0 17 rfl rfl)
theorem dX4_earned_20 : decode cX4_earned 20 = .ok (.iload_n 2, 1) := dk_28 (dk_at dksX4_earned_0 20 rfl rfl)
theorem dX4_earned_21 : decode cX4_earned 21 = .ok (.bipush 6, 2) := dk_16 6 (dk_at dksX4_earned_0 21 rfl rfl)
theorem dX4_earned_23 : decode cX4_earned 23 = .ok (.irem, 1) := dk_112 (dk_at dksX4_earned_0 23 rfl rfl)
theorem dX4_earned_24 : decode cX4_earned 24 = .ok (.iconst 1, 1) := dk_4 (dk_at dksX4_earned_1 0 rfl rfl)
theorem dX4_earned_25 : decode cX4_earned 25 = .ok (.isub, 1) := dk_100 (dk_at dksX4_earned_1 1 rfl rfl)
theorem dX4_earned_26 : decode cX4_earned 26 = .ok (.istore 6, 2) := dk_54 6 (dk_at dksX4_earned_1 2 rfl rfl)
theorem dX4_earned_28 : decode cX4_earned 28 = .ok (.iload_n 2, 1) := dk_28 (dk_at dksX4_earned_1 4 rfl rfl)
theorem dX4_earned_29 : decode cX4_earned 29 = .ok (.bipush 6, 2) := dk_16 6 (dk_at dksX4_earned_1 5 rfl rfl)
theorem dX4_earned_31 : decode cX4_earned 31 = .ok (.idiv, 1) := dk_108 (dk_at dksX4_earned_1 7 rfl rfl)
theorem dX4_earned_32 : decode cX4_earned 32 = .ok (.istore_n 2, 1) := dk_61 (dk_at dksX4_earned_1 8 rfl rfl)
theorem dX4_earned_33 : decode cX4_earned 33 = .ok (.iload 6, 2) := dk_21 6 (dk_at dksX4_earned_1 9 rfl rfl)
theorem dX4_earned_35 : decode cX4_earned 35 = .ok (.ifCond .lt 57, 3) := dk_155 0 57 (dk_at dksX4_earned_1 11 rfl rfl)
theorem dX4_earned_38 : decode cX4_earned 38 = .ok (.aload_n 0, 1) := dk_42 (dk_at dksX4_earned_1 14 rfl rfl)
theorem dX4_earned_39 : decode cX4_earned 39 = .ok (.getfield 32, 3) := dk_180 0 32 (dk_at dksX4_earned_1 15 rfl rfl)
theorem dX4_earned_42 : decode cX4_earned 42 = .ok (.iload 5, 2) := dk_21 5 (dk_at dksX4_earned_1 18 rfl rfl)
theorem dX4_earned_44 : decode cX4_earned 44 = .ok (.iaload, 1) := dk_46 (dk_at dksX4_earned_1 20 rfl rfl)
theorem dX4_earned_45 : decode cX4_earned 45 = .ok (.iload 6, 2) := dk_21 6 (dk_at dksX4_earned_1 21 rfl rfl)
theorem dX4_earned_47 : decode cX4_earned 47 = .ok (.ishr, 1) := dk_122 (dk_at dksX4_earned_1 23 rfl rfl)
theorem dX4_earned_48 : decode cX4_earned 48 = .ok (.iconst 1, 1) := dk_4 (dk_at dksX4_earned_2 0 rfl rfl)
theorem dX4_earned_49 : decode cX4_earned 49 = .ok (.iand, 1) := dk_126 (dk_at dksX4_earned_2 1 rfl rfl)
theorem dX4_earned_50 : decode cX4_earned 50 = .ok (.ifCond .eq 14, 3) := dk_153 0 14 (dk_at dksX4_earned_2 2 rfl rfl)
theorem dX4_earned_53 : decode cX4_earned 53 = .ok (.iload 4, 2) := dk_21 4 (dk_at dksX4_earned_2 5 rfl rfl)
theorem dX4_earned_55 : decode cX4_earned 55 = .ok (.iload 6, 2) := dk_21 6 (dk_at dksX4_earned_2 7 rfl rfl)
theorem dX4_earned_57 : decode cX4_earned 57 = .ok (.ishr, 1) := dk_122 (dk_at dksX4_earned_2 9 rfl rfl)
theorem dX4_earned_58 : decode cX4_earned 58 = .ok (.iconst 1, 1) := dk_4 (dk_at dksX4_earned_2 10 rfl rfl)
theorem dX4_earned_59 : decode cX4_earned 59 = .ok (.iand, 1) := dk_126 (dk_at dksX4_earned_2 11 rfl rfl)
theorem dX4_earned_60 : decode cX4_earned 60 = .ok (.iconst 1, 1) := dk_4 (dk_at dksX4_earned_2 12 rfl rfl)
theorem dX4_earned_61 : decode cX4_earned 61 = .ok (.if_icmp .ne 6, 3) := dk_160 0 6 (dk_at dksX4_earned_2 13 rfl rfl)
theorem dX4_earned_64 : decode cX4_earned 64 = .ok (.bipush (-4), 2) := dk_16 252 (dk_at dksX4_earned_2 16 rfl rfl)
theorem dX4_earned_66 : decode cX4_earned 66 = .ok (.ireturn, 1) := dk_172 (dk_at dksX4_earned_2 18 rfl rfl)
theorem dX4_earned_67 : decode cX4_earned 67 = .ok (.iload 4, 2) := dk_21 4 (dk_at dksX4_earned_2 19 rfl rfl)
theorem dX4_earned_69 : decode cX4_earned 69 = .ok (.iconst 1, 1) := dk_4 (dk_at dksX4_earned_2 21 rfl rfl)
theorem dX4_earned_70 : decode cX4_earned 70 = .ok (.iload 6, 2) := dk_21 6 (dk_at dksX4_earned_2 22 rfl rfl)
theorem dX4_earned_72 : decode cX4_earned 72 = .ok (.ishl, 1) := dk_120 (dk_at dksX4_earned_3 0 rfl rfl)
theorem dX4_earned_73 : decode cX4_earned 73 = .ok (.ior, 1) := dk_128 (dk_at dksX4_earned_3 1 rfl rfl)
theorem dX4_earned_74 : decode cX4_earned 74 = .ok (.istore 4, 2) := dk_54 4 (dk_at dksX4_earned_3 2 rfl rfl)
theorem dX4_earned_76 : decode cX4_earned 76 = .ok (.iload_n 3, 1) := dk_29 (dk_at dksX4_earned_3 4 rfl rfl)
theorem dX4_earned_77 : decode cX4_earned 77 = .ok (.aload_n 0, 1) := dk_42 (dk_at dksX4_earned_3 5 rfl rfl)
theorem dX4_earned_78 : decode cX4_earned 78 = .ok (.getfield 20, 3) := dk_180 0 20 (dk_at dksX4_earned_3 6 rfl rfl)
theorem dX4_earned_81 : decode cX4_earned 81 = .ok (.bipush 8, 2) := dk_16 8 (dk_at dksX4_earned_3 9 rfl rfl)
theorem dX4_earned_83 : decode cX4_earned 83 = .ok (.iload 5, 2) := dk_21 5 (dk_at dksX4_earned_3 11 rfl rfl)
theorem dX4_earned_85 : decode cX4_earned 85 = .ok (.imul, 1) := dk_104 (dk_at dksX4_earned_3 13 rfl rfl)
theorem dX4_earned_86 : decode cX4_earned 86 = .ok (.bipush 7, 2) := dk_16 7 (dk_at dksX4_earned_3 14 rfl rfl)
theorem dX4_earned_88 : decode cX4_earned 88 = .ok (.iadd, 1) := dk_96 (dk_at dksX4_earned_3 16 rfl rfl)
theorem dX4_earned_89 : decode cX4_earned 89 = .ok (.iaload, 1) := dk_46 (dk_at dksX4_earned_3 17 rfl rfl)
theorem dX4_earned_90 : decode cX4_earned 90 = .ok (.iadd, 1) := dk_96 (dk_at dksX4_earned_3 18 rfl rfl)
theorem dX4_earned_91 : decode cX4_earned 91 = .ok (.istore_n 3, 1) := dk_62 (dk_at dksX4_earned_3 19 rfl rfl)
theorem dX4_earned_92 : decode cX4_earned 92 = .ok (.iinc 5 (-1), 3) := dk_132 5 255 (dk_at dksX4_earned_3 20 rfl rfl)
theorem dX4_earned_95 : decode cX4_earned 95 = .ok (.goto (-80), 3) := dk_167 255 176 (dk_at dksX4_earned_4 0 rfl rfl)
theorem dX4_earned_98 : decode cX4_earned 98 = .ok (.iload_n 3, 1) := dk_29 (dk_at dksX4_earned_4 3 rfl rfl)
theorem dX4_earned_99 : decode cX4_earned 99 = .ok (.ireturn, 1) := dk_172 (dk_at dksX4_earned_4 4 rfl rfl)
abbrev cX4_buyerOf : ByteArray := prog_13_method_72_code
def yX4_buyerOf : MethodName := ⟨RX4, "buyerOf", "(II)I"⟩
def dkwX4_buyerOf_0 : List UInt8 := [27, 16, 6, 42, 180, 0, 75, 4, 100, 28, 100, 184, 1, 7, 108, 16, 6, 112, 4, 100, 172]
abbrev dktX4_buyerOf_0 : List UInt8 := dkwX4_buyerOf_0 ++ []
theorem dksX4_buyerOf_0 : cX4_buyerOf.data.toList.drop 0 = dktX4_buyerOf_0 := by decide +kernel
theorem dX4_buyerOf_0 : decode cX4_buyerOf 0 = .ok (.iload_n 1, 1) := dk_27 (dk_at dksX4_buyerOf_0 0 rfl rfl)
theorem dX4_buyerOf_1 : decode cX4_buyerOf 1 = .ok (.bipush 6, 2) := dk_16 6 (dk_at dksX4_buyerOf_0 1 rfl rfl)
theorem dX4_buyerOf_3 : decode cX4_buyerOf 3 = .ok (.aload_n 0, 1) := dk_42 (dk_at dksX4_buyerOf_0 3 rfl rfl)
theorem dX4_buyerOf_4 : decode cX4_buyerOf 4 = .ok (.getfield 75, 3) := dk_180 0 75 (dk_at dksX4_buyerOf_0 4 rfl rfl)
theorem dX4_buyerOf_7 : decode cX4_buyerOf 7 = .ok (.iconst 1, 1) := dk_4 (dk_at dksX4_buyerOf_0 7 rfl rfl)
theorem dX4_buyerOf_8 : decode cX4_buyerOf 8 = .ok (.isub, 1) := dk_100 (dk_at dksX4_buyerOf_0 8 rfl rfl)
theorem dX4_buyerOf_9 : decode cX4_buyerOf 9 = .ok (.iload_n 2, 1) := dk_28 (dk_at dksX4_buyerOf_0 9 rfl rfl)
theorem dX4_buyerOf_10 : decode cX4_buyerOf 10 = .ok (.isub, 1) := dk_100 (dk_at dksX4_buyerOf_0 10 rfl rfl)
theorem dX4_buyerOf_11 : decode cX4_buyerOf 11 = .ok (.invokestatic 263, 3) := dk_184 1 7 (dk_at dksX4_buyerOf_0 11 rfl rfl)
theorem dX4_buyerOf_14 : decode cX4_buyerOf 14 = .ok (.idiv, 1) := dk_108 (dk_at dksX4_buyerOf_0 14 rfl rfl)
theorem dX4_buyerOf_15 : decode cX4_buyerOf 15 = .ok (.bipush 6, 2) := dk_16 6 (dk_at dksX4_buyerOf_0 15 rfl rfl)
theorem dX4_buyerOf_17 : decode cX4_buyerOf 17 = .ok (.irem, 1) := dk_112 (dk_at dksX4_buyerOf_0 17 rfl rfl)
theorem dX4_buyerOf_18 : decode cX4_buyerOf 18 = .ok (.iconst 1, 1) := dk_4 (dk_at dksX4_buyerOf_0 18 rfl rfl)
theorem dX4_buyerOf_19 : decode cX4_buyerOf 19 = .ok (.isub, 1) := dk_100 (dk_at dksX4_buyerOf_0 19 rfl rfl)
theorem dX4_buyerOf_20 : decode cX4_buyerOf 20 = .ok (.ireturn, 1) := dk_172 (dk_at dksX4_buyerOf_0 20 rfl rfl)
abbrev cX4_best : ByteArray := prog_13_method_79_code
def yX4_best : MethodName := ⟨RX4, "best", "(II)I"⟩
def dkwX4_best_5 : List UInt8 := [16, 10, 100, 5, 182, 0, 165, 172]
abbrev dktX4_best_5 : List UInt8 := dkwX4_best_5 ++ []
def dkwX4_best_4 : List UInt8 := [62, 132, 5, 1, 167, 255, 196, 42, 21, 4, 182, 1, 30, 87, 28, 154, 0, 7, 29, 167, 0, 12, 42, 28]
abbrev dktX4_best_4 : List UInt8 := dkwX4_best_4 ++ dktX4_best_5
def dkwX4_best_3 : List UInt8 := [164, 0, 8, 21, 5, 167, 0, 5, 21, 4, 54, 4, 21, 6, 29, 164, 0, 8, 21, 6, 167, 0, 4, 29]
abbrev dktX4_best_3 : List UInt8 := dkwX4_best_3 ++ dktX4_best_4
def dkwX4_best_2 : List UInt8 := [21, 5, 182, 1, 30, 153, 0, 42, 42, 27, 182, 0, 251, 42, 182, 1, 19, 54, 6, 21, 6, 29]
abbrev dktX4_best_2 : List UInt8 := dkwX4_best_2 ++ dktX4_best_3
def dkwX4_best_1 : List UInt8 := [154, 0, 5, 2, 172, 2, 62, 3, 54, 4, 3, 54, 5, 21, 5, 42, 182, 1, 27, 162, 0, 57, 42]
abbrev dktX4_best_1 : List UInt8 := dkwX4_best_1 ++ dktX4_best_2
def dkwX4_best_0 : List UInt8 := [27, 133, 9, 20, 1, 25, 184, 0, 80, 153, 0, 18, 28, 153, 0, 16, 42, 28, 16, 10, 100, 182, 0, 223]
abbrev dktX4_best_0 : List UInt8 := dkwX4_best_0 ++ dktX4_best_1
theorem dksX4_best_0 : cX4_best.data.toList.drop 0 = dktX4_best_0 := by decide +kernel
theorem dksX4_best_1 : cX4_best.data.toList.drop 24 = dktX4_best_1 := dk_seg dksX4_best_0 24 rfl rfl
theorem dksX4_best_2 : cX4_best.data.toList.drop 47 = dktX4_best_2 := dk_seg dksX4_best_1 23 rfl rfl
theorem dksX4_best_3 : cX4_best.data.toList.drop 69 = dktX4_best_3 := dk_seg dksX4_best_2 22 rfl rfl
theorem dksX4_best_4 : cX4_best.data.toList.drop 93 = dktX4_best_4 := dk_seg dksX4_best_3 24 rfl rfl
theorem dksX4_best_5 : cX4_best.data.toList.drop 117 = dktX4_best_5 := dk_seg dksX4_best_4 24 rfl rfl
theorem dX4_best_0 : decode cX4_best 0 = .ok (.iload_n 1, 1) := dk_27 (dk_at dksX4_best_0 0 rfl rfl)
theorem dX4_best_1 : decode cX4_best 1 = .ok (.i2l, 1) := dk_133 (dk_at dksX4_best_0 1 rfl rfl)
theorem dX4_best_2 : decode cX4_best 2 = .ok (.lconst 0, 1) := dk_9 (dk_at dksX4_best_0 2 rfl rfl)
theorem dX4_best_3 : decode cX4_best 3 = .ok (.ldc2_w 281, 3) := dk_20 1 25 (dk_at dksX4_best_0 3 rfl rfl)
theorem dX4_best_6 : decode cX4_best 6 = .ok (.invokestatic 80, 3) := dk_184 0 80 (dk_at dksX4_best_0 6 rfl rfl)
theorem dX4_best_9 : decode cX4_best 9 = .ok (.ifCond .eq 18, 3) := dk_153 0 18 (dk_at dksX4_best_0 9 rfl rfl)
theorem dX4_best_12 : decode cX4_best 12 = .ok (.iload_n 2, 1) := dk_28 (dk_at dksX4_best_0 12 rfl rfl)
theorem dX4_best_13 : decode cX4_best 13 = .ok (.ifCond .eq 16, 3) := dk_153 0 16 (dk_at dksX4_best_0 13 rfl rfl)
theorem dX4_best_16 : decode cX4_best 16 = .ok (.aload_n 0, 1) := dk_42 (dk_at dksX4_best_0 16 rfl rfl)
theorem dX4_best_17 : decode cX4_best 17 = .ok (.iload_n 2, 1) := dk_28 (dk_at dksX4_best_0 17 rfl rfl)
theorem dX4_best_18 : decode cX4_best 18 = .ok (.bipush 10, 2) := dk_16 10 (dk_at dksX4_best_0 18 rfl rfl)
theorem dX4_best_20 : decode cX4_best 20 = .ok (.isub, 1) := dk_100 (dk_at dksX4_best_0 20 rfl rfl)
theorem dX4_best_21 : decode cX4_best 21 = .ok (.invokevirtual 223, 3) := dk_182 0 223 (dk_at dksX4_best_0 21 rfl rfl)
theorem dX4_best_24 : decode cX4_best 24 = .ok (.ifCond .ne 5, 3) := dk_154 0 5 (dk_at dksX4_best_1 0 rfl rfl)
theorem dX4_best_27 : decode cX4_best 27 = .ok (.iconst (-1), 1) := dk_2 (dk_at dksX4_best_1 3 rfl rfl)
theorem dX4_best_28 : decode cX4_best 28 = .ok (.ireturn, 1) := dk_172 (dk_at dksX4_best_1 4 rfl rfl)
theorem dX4_best_29 : decode cX4_best 29 = .ok (.iconst (-1), 1) := dk_2 (dk_at dksX4_best_1 5 rfl rfl)
theorem dX4_best_30 : decode cX4_best 30 = .ok (.istore_n 3, 1) := dk_62 (dk_at dksX4_best_1 6 rfl rfl)
theorem dX4_best_31 : decode cX4_best 31 = .ok (.iconst 0, 1) := dk_3 (dk_at dksX4_best_1 7 rfl rfl)
theorem dX4_best_32 : decode cX4_best 32 = .ok (.istore 4, 2) := dk_54 4 (dk_at dksX4_best_1 8 rfl rfl)
theorem dX4_best_34 : decode cX4_best 34 = .ok (.iconst 0, 1) := dk_3 (dk_at dksX4_best_1 10 rfl rfl)
theorem dX4_best_35 : decode cX4_best 35 = .ok (.istore 5, 2) := dk_54 5 (dk_at dksX4_best_1 11 rfl rfl)
theorem dX4_best_37 : decode cX4_best 37 = .ok (.iload 5, 2) := dk_21 5 (dk_at dksX4_best_1 13 rfl rfl)
theorem dX4_best_39 : decode cX4_best 39 = .ok (.aload_n 0, 1) := dk_42 (dk_at dksX4_best_1 15 rfl rfl)
theorem dX4_best_40 : decode cX4_best 40 = .ok (.invokevirtual 283, 3) := dk_182 1 27 (dk_at dksX4_best_1 16 rfl rfl)
theorem dX4_best_43 : decode cX4_best 43 = .ok (.if_icmp .ge 57, 3) := dk_162 0 57 (dk_at dksX4_best_1 19 rfl rfl)
theorem dX4_best_46 : decode cX4_best 46 = .ok (.aload_n 0, 1) := dk_42 (dk_at dksX4_best_1 22 rfl rfl)
theorem dX4_best_47 : decode cX4_best 47 = .ok (.iload 5, 2) := dk_21 5 (dk_at dksX4_best_2 0 rfl rfl)
theorem dX4_best_49 : decode cX4_best 49 = .ok (.invokevirtual 286, 3) := dk_182 1 30 (dk_at dksX4_best_2 2 rfl rfl)
theorem dX4_best_52 : decode cX4_best 52 = .ok (.ifCond .eq 42, 3) := dk_153 0 42 (dk_at dksX4_best_2 5 rfl rfl)
theorem dX4_best_55 : decode cX4_best 55 = .ok (.aload_n 0, 1) := dk_42 (dk_at dksX4_best_2 8 rfl rfl)
theorem dX4_best_56 : decode cX4_best 56 = .ok (.iload_n 1, 1) := dk_27 (dk_at dksX4_best_2 9 rfl rfl)
theorem dX4_best_57 : decode cX4_best 57 = .ok (.invokevirtual 251, 3) := dk_182 0 251 (dk_at dksX4_best_2 10 rfl rfl)
theorem dX4_best_60 : decode cX4_best 60 = .ok (.aload_n 0, 1) := dk_42 (dk_at dksX4_best_2 13 rfl rfl)
theorem dX4_best_61 : decode cX4_best 61 = .ok (.invokevirtual 275, 3) := dk_182 1 19 (dk_at dksX4_best_2 14 rfl rfl)
theorem dX4_best_64 : decode cX4_best 64 = .ok (.istore 6, 2) := dk_54 6 (dk_at dksX4_best_2 17 rfl rfl)
theorem dX4_best_66 : decode cX4_best 66 = .ok (.iload 6, 2) := dk_21 6 (dk_at dksX4_best_2 19 rfl rfl)
theorem dX4_best_68 : decode cX4_best 68 = .ok (.iload_n 3, 1) := dk_29 (dk_at dksX4_best_2 21 rfl rfl)
theorem dX4_best_69 : decode cX4_best 69 = .ok (.if_icmp .le 8, 3) := dk_164 0 8 (dk_at dksX4_best_3 0 rfl rfl)
theorem dX4_best_72 : decode cX4_best 72 = .ok (.iload 5, 2) := dk_21 5 (dk_at dksX4_best_3 3 rfl rfl)
theorem dX4_best_74 : decode cX4_best 74 = .ok (.goto 5, 3) := dk_167 0 5 (dk_at dksX4_best_3 5 rfl rfl)
theorem dX4_best_77 : decode cX4_best 77 = .ok (.iload 4, 2) := dk_21 4 (dk_at dksX4_best_3 8 rfl rfl)
theorem dX4_best_79 : decode cX4_best 79 = .ok (.istore 4, 2) := dk_54 4 (dk_at dksX4_best_3 10 rfl rfl)
theorem dX4_best_81 : decode cX4_best 81 = .ok (.iload 6, 2) := dk_21 6 (dk_at dksX4_best_3 12 rfl rfl)
theorem dX4_best_83 : decode cX4_best 83 = .ok (.iload_n 3, 1) := dk_29 (dk_at dksX4_best_3 14 rfl rfl)
theorem dX4_best_84 : decode cX4_best 84 = .ok (.if_icmp .le 8, 3) := dk_164 0 8 (dk_at dksX4_best_3 15 rfl rfl)
theorem dX4_best_87 : decode cX4_best 87 = .ok (.iload 6, 2) := dk_21 6 (dk_at dksX4_best_3 18 rfl rfl)
theorem dX4_best_89 : decode cX4_best 89 = .ok (.goto 4, 3) := dk_167 0 4 (dk_at dksX4_best_3 20 rfl rfl)
theorem dX4_best_92 : decode cX4_best 92 = .ok (.iload_n 3, 1) := dk_29 (dk_at dksX4_best_3 23 rfl rfl)
theorem dX4_best_93 : decode cX4_best 93 = .ok (.istore_n 3, 1) := dk_62 (dk_at dksX4_best_4 0 rfl rfl)
theorem dX4_best_94 : decode cX4_best 94 = .ok (.iinc 5 1, 3) := dk_132 5 1 (dk_at dksX4_best_4 1 rfl rfl)
theorem dX4_best_97 : decode cX4_best 97 = .ok (.goto (-60), 3) := dk_167 255 196 (dk_at dksX4_best_4 4 rfl rfl)
theorem dX4_best_100 : decode cX4_best 100 = .ok (.aload_n 0, 1) := dk_42 (dk_at dksX4_best_4 7 rfl rfl)
theorem dX4_best_101 : decode cX4_best 101 = .ok (.iload 4, 2) := dk_21 4 (dk_at dksX4_best_4 8 rfl rfl)
theorem dX4_best_103 : decode cX4_best 103 = .ok (.invokevirtual 286, 3) := dk_182 1 30 (dk_at dksX4_best_4 10 rfl rfl)
theorem dX4_best_106 : decode cX4_best 106 = .ok (.pop, 1) := dk_87 (dk_at dksX4_best_4 13 rfl rfl)
theorem dX4_best_107 : decode cX4_best 107 = .ok (.iload_n 2, 1) := dk_28 (dk_at dksX4_best_4 14 rfl rfl)
theorem dX4_best_108 : decode cX4_best 108 = .ok (.ifCond .ne 7, 3) := dk_154 0 7 (dk_at dksX4_best_4 15 rfl rfl)
theorem dX4_best_111 : decode cX4_best 111 = .ok (.iload_n 3, 1) := dk_29 (dk_at dksX4_best_4 18 rfl rfl)
theorem dX4_best_112 : decode cX4_best 112 = .ok (.goto 12, 3) := dk_167 0 12 (dk_at dksX4_best_4 19 rfl rfl)
theorem dX4_best_115 : decode cX4_best 115 = .ok (.aload_n 0, 1) := dk_42 (dk_at dksX4_best_4 22 rfl rfl)
theorem dX4_best_116 : decode cX4_best 116 = .ok (.iload_n 2, 1) := dk_28 (dk_at dksX4_best_4 23 rfl rfl)
theorem dX4_best_117 : decode cX4_best 117 = .ok (.bipush 10, 2) := dk_16 10 (dk_at dksX4_best_5 0 rfl rfl)
theorem dX4_best_119 : decode cX4_best 119 = .ok (.isub, 1) := dk_100 (dk_at dksX4_best_5 2 rfl rfl)
theorem dX4_best_120 : decode cX4_best 120 = .ok (.iconst 2, 1) := dk_5 (dk_at dksX4_best_5 3 rfl rfl)
theorem dX4_best_121 : decode cX4_best 121 = .ok (.invokevirtual 165, 3) := dk_182 0 165 (dk_at dksX4_best_5 4 rfl rfl)
theorem dX4_best_124 : decode cX4_best 124 = .ok (.ireturn, 1) := dk_172 (dk_at dksX4_best_5 7 rfl rfl)
abbrev cX4_droves : ByteArray := prog_13_method_77_code
def yX4_droves : MethodName := ⟨RX4, "droves", "()I"⟩
def dkwX4_droves_2 : List UInt8 := [27, 172]
abbrev dktX4_droves_2 : List UInt8 := dkwX4_droves_2 ++ []
def dkwX4_droves_1 : List UInt8 := [5, 96, 46, 16, 252, 160, 0, 7, 4, 167, 0, 7, 42, 180, 0, 69, 104, 60, 132, 2, 1, 167, 255, 215]
abbrev dktX4_droves_1 : List UInt8 := dkwX4_droves_1 ++ dktX4_droves_2
def dkwX4_droves_0 : List UInt8 := [4, 60, 3, 61, 28, 42, 180, 0, 72, 162, 0, 39, 27, 42, 180, 0, 7, 16, 8, 16, 9, 28, 104, 96]
abbrev dktX4_droves_0 : List UInt8 := dkwX4_droves_0 ++ dktX4_droves_1
theorem dksX4_droves_0 : cX4_droves.data.toList.drop 0 = dktX4_droves_0 := by decide +kernel
theorem dksX4_droves_1 : cX4_droves.data.toList.drop 24 = dktX4_droves_1 := dk_seg dksX4_droves_0 24 rfl rfl
theorem dksX4_droves_2 : cX4_droves.data.toList.drop 48 = dktX4_droves_2 := dk_seg dksX4_droves_1 24 rfl rfl
theorem dX4_droves_0 : decode cX4_droves 0 = .ok (.iconst 1, 1) := dk_4 (dk_at dksX4_droves_0 0 rfl rfl)
theorem dX4_droves_1 : decode cX4_droves 1 = .ok (.istore_n 1, 1) := dk_60 (dk_at dksX4_droves_0 1 rfl rfl)
theorem dX4_droves_2 : decode cX4_droves 2 = .ok (.iconst 0, 1) := dk_3 (dk_at dksX4_droves_0 2 rfl rfl)
theorem dX4_droves_3 : decode cX4_droves 3 = .ok (.istore_n 2, 1) := dk_61 (dk_at dksX4_droves_0 3 rfl rfl)
theorem dX4_droves_4 : decode cX4_droves 4 = .ok (.iload_n 2, 1) := dk_28 (dk_at dksX4_droves_0 4 rfl rfl)
theorem dX4_droves_5 : decode cX4_droves 5 = .ok (.aload_n 0, 1) := dk_42 (dk_at dksX4_droves_0 5 rfl rfl)
theorem dX4_droves_6 : decode cX4_droves 6 = .ok (.getfield 72, 3) := dk_180 0 72 (dk_at dksX4_droves_0 6 rfl rfl)
theorem dX4_droves_9 : decode cX4_droves 9 = .ok (.if_icmp .ge 39, 3) := dk_162 0 39 (dk_at dksX4_droves_0 9 rfl rfl)
theorem dX4_droves_12 : decode cX4_droves 12 = .ok (.iload_n 1, 1) := dk_27 (dk_at dksX4_droves_0 12 rfl rfl)
theorem dX4_droves_13 : decode cX4_droves 13 = .ok (.aload_n 0, 1) := dk_42 (dk_at dksX4_droves_0 13 rfl rfl)
theorem dX4_droves_14 : decode cX4_droves 14 = .ok (.getfield 7, 3) := dk_180 0 7 (dk_at dksX4_droves_0 14 rfl rfl)
theorem dX4_droves_17 : decode cX4_droves 17 = .ok (.bipush 8, 2) := dk_16 8 (dk_at dksX4_droves_0 17 rfl rfl)
theorem dX4_droves_19 : decode cX4_droves 19 = .ok (.bipush 9, 2) := dk_16 9 (dk_at dksX4_droves_0 19 rfl rfl)
theorem dX4_droves_21 : decode cX4_droves 21 = .ok (.iload_n 2, 1) := dk_28 (dk_at dksX4_droves_0 21 rfl rfl)
theorem dX4_droves_22 : decode cX4_droves 22 = .ok (.imul, 1) := dk_104 (dk_at dksX4_droves_0 22 rfl rfl)
theorem dX4_droves_23 : decode cX4_droves 23 = .ok (.iadd, 1) := dk_96 (dk_at dksX4_droves_0 23 rfl rfl)
theorem dX4_droves_24 : decode cX4_droves 24 = .ok (.iconst 2, 1) := dk_5 (dk_at dksX4_droves_1 0 rfl rfl)
theorem dX4_droves_25 : decode cX4_droves 25 = .ok (.iadd, 1) := dk_96 (dk_at dksX4_droves_1 1 rfl rfl)
theorem dX4_droves_26 : decode cX4_droves 26 = .ok (.iaload, 1) := dk_46 (dk_at dksX4_droves_1 2 rfl rfl)
theorem dX4_droves_27 : decode cX4_droves 27 = .ok (.bipush (-4), 2) := dk_16 252 (dk_at dksX4_droves_1 3 rfl rfl)
theorem dX4_droves_29 : decode cX4_droves 29 = .ok (.if_icmp .ne 7, 3) := dk_160 0 7 (dk_at dksX4_droves_1 5 rfl rfl)
theorem dX4_droves_32 : decode cX4_droves 32 = .ok (.iconst 1, 1) := dk_4 (dk_at dksX4_droves_1 8 rfl rfl)
theorem dX4_droves_33 : decode cX4_droves 33 = .ok (.goto 7, 3) := dk_167 0 7 (dk_at dksX4_droves_1 9 rfl rfl)
theorem dX4_droves_36 : decode cX4_droves 36 = .ok (.aload_n 0, 1) := dk_42 (dk_at dksX4_droves_1 12 rfl rfl)
theorem dX4_droves_37 : decode cX4_droves 37 = .ok (.getfield 69, 3) := dk_180 0 69 (dk_at dksX4_droves_1 13 rfl rfl)
theorem dX4_droves_40 : decode cX4_droves 40 = .ok (.imul, 1) := dk_104 (dk_at dksX4_droves_1 16 rfl rfl)
theorem dX4_droves_41 : decode cX4_droves 41 = .ok (.istore_n 1, 1) := dk_60 (dk_at dksX4_droves_1 17 rfl rfl)
theorem dX4_droves_42 : decode cX4_droves 42 = .ok (.iinc 2 1, 3) := dk_132 2 1 (dk_at dksX4_droves_1 18 rfl rfl)
theorem dX4_droves_45 : decode cX4_droves 45 = .ok (.goto (-41), 3) := dk_167 255 215 (dk_at dksX4_droves_1 21 rfl rfl)
theorem dX4_droves_48 : decode cX4_droves 48 = .ok (.iload_n 1, 1) := dk_27 (dk_at dksX4_droves_2 0 rfl rfl)
theorem dX4_droves_49 : decode cX4_droves 49 = .ok (.ireturn, 1) := dk_172 (dk_at dksX4_droves_2 1 rfl rfl)
abbrev cX4_drivesBy : ByteArray := prog_13_method_78_code
def yX4_drivesBy : MethodName := ⟨RX4, "drivesBy", "(I)Z"⟩
def dkwX4_drivesBy_4 : List UInt8 := [167, 255, 221, 29, 172]
abbrev dktX4_drivesBy_4 : List UInt8 := dkwX4_drivesBy_4 ++ []
def dkwX4_drivesBy_3 : List UInt8 := [42, 21, 4, 182, 0, 212, 184, 0, 229, 6, 163, 0, 7, 4, 167, 0, 4, 3, 62, 132, 4, 1]
abbrev dktX4_drivesBy_3 : List UInt8 := dkwX4_drivesBy_3 ++ dktX4_drivesBy_4
def dkwX4_drivesBy_2 : List UInt8 := [108, 61, 132, 4, 255, 167, 255, 219, 3, 54, 4, 21, 4, 42, 180, 0, 69, 162, 0, 32, 29, 153, 0, 20]
abbrev dktX4_drivesBy_2 : List UInt8 := dkwX4_drivesBy_2 ++ dktX4_drivesBy_3
def dkwX4_drivesBy_1 : List UInt8 := [182, 0, 168, 154, 0, 23, 42, 21, 4, 5, 28, 42, 180, 0, 69, 112, 182, 0, 187, 28, 42, 180, 0, 69]
abbrev dktX4_drivesBy_1 : List UInt8 := dkwX4_drivesBy_1 ++ dktX4_drivesBy_2
def dkwX4_drivesBy_0 : List UInt8 := [27, 61, 4, 62, 42, 182, 0, 209, 42, 180, 0, 72, 4, 100, 54, 4, 21, 4, 155, 0, 38, 42, 21, 4]
abbrev dktX4_drivesBy_0 : List UInt8 := dkwX4_drivesBy_0 ++ dktX4_drivesBy_1
theorem dksX4_drivesBy_0 : cX4_drivesBy.data.toList.drop 0 = dktX4_drivesBy_0 := by decide +kernel
theorem dksX4_drivesBy_1 : cX4_drivesBy.data.toList.drop 24 = dktX4_drivesBy_1 := dk_seg dksX4_drivesBy_0 24 rfl rfl
theorem dksX4_drivesBy_2 : cX4_drivesBy.data.toList.drop 48 = dktX4_drivesBy_2 := dk_seg dksX4_drivesBy_1 24 rfl rfl
theorem dksX4_drivesBy_3 : cX4_drivesBy.data.toList.drop 72 = dktX4_drivesBy_3 := dk_seg dksX4_drivesBy_2 24 rfl rfl
theorem dksX4_drivesBy_4 : cX4_drivesBy.data.toList.drop 94 = dktX4_drivesBy_4 := dk_seg dksX4_drivesBy_3 22 rfl rfl
theorem dX4_drivesBy_0 : decode cX4_drivesBy 0 = .ok (.iload_n 1, 1) := dk_27 (dk_at dksX4_drivesBy_0 0 rfl rfl)
theorem dX4_drivesBy_1 : decode cX4_drivesBy 1 = .ok (.istore_n 2, 1) := dk_61 (dk_at dksX4_drivesBy_0 1 rfl rfl)
theorem dX4_drivesBy_2 : decode cX4_drivesBy 2 = .ok (.iconst 1, 1) := dk_4 (dk_at dksX4_drivesBy_0 2 rfl rfl)
theorem dX4_drivesBy_3 : decode cX4_drivesBy 3 = .ok (.istore_n 3, 1) := dk_62 (dk_at dksX4_drivesBy_0 3 rfl rfl)
theorem dX4_drivesBy_4 : decode cX4_drivesBy 4 = .ok (.aload_n 0, 1) := dk_42 (dk_at dksX4_drivesBy_0 4 rfl rfl)
theorem dX4_drivesBy_5 : decode cX4_drivesBy 5 = .ok (.invokevirtual 209, 3) := dk_182 0 209 (dk_at dksX4_drivesBy_0 5 rfl rfl)
theorem dX4_drivesBy_8 : decode cX4_drivesBy 8 = .ok (.aload_n 0, 1) := dk_42 (dk_at dksX4_drivesBy_0 8 rfl rfl)
theorem dX4_drivesBy_9 : decode cX4_drivesBy 9 = .ok (.getfield 72, 3) := dk_180 0 72 (dk_at dksX4_drivesBy_0 9 rfl rfl)
theorem dX4_drivesBy_12 : decode cX4_drivesBy 12 = .ok (.iconst 1, 1) := dk_4 (dk_at dksX4_drivesBy_0 12 rfl rfl)
theorem dX4_drivesBy_13 : decode cX4_drivesBy 13 = .ok (.isub, 1) := dk_100 (dk_at dksX4_drivesBy_0 13 rfl rfl)
theorem dX4_drivesBy_14 : decode cX4_drivesBy 14 = .ok (.istore 4, 2) := dk_54 4 (dk_at dksX4_drivesBy_0 14 rfl rfl)
theorem dX4_drivesBy_16 : decode cX4_drivesBy 16 = .ok (.iload 4, 2) := dk_21 4 (dk_at dksX4_drivesBy_0 16 rfl rfl)
theorem dX4_drivesBy_18 : decode cX4_drivesBy 18 = .ok (.ifCond .lt 38, 3) := dk_155 0 38 (dk_at dksX4_drivesBy_0 18 rfl rfl)
theorem dX4_drivesBy_21 : decode cX4_drivesBy 21 = .ok (.aload_n 0, 1) := dk_42 (dk_at dksX4_drivesBy_0 21 rfl rfl)
theorem dX4_drivesBy_22 : decode cX4_drivesBy 22 = .ok (.iload 4, 2) := dk_21 4 (dk_at dksX4_drivesBy_0 22 rfl rfl)
theorem dX4_drivesBy_24 : decode cX4_drivesBy 24 = .ok (.invokevirtual 168, 3) := dk_182 0 168 (dk_at dksX4_drivesBy_1 0 rfl rfl)
theorem dX4_drivesBy_27 : decode cX4_drivesBy 27 = .ok (.ifCond .ne 23, 3) := dk_154 0 23 (dk_at dksX4_drivesBy_1 3 rfl rfl)
theorem dX4_drivesBy_30 : decode cX4_drivesBy 30 = .ok (.aload_n 0, 1) := dk_42 (dk_at dksX4_drivesBy_1 6 rfl rfl)
theorem dX4_drivesBy_31 : decode cX4_drivesBy 31 = .ok (.iload 4, 2) := dk_21 4 (dk_at dksX4_drivesBy_1 7 rfl rfl)
theorem dX4_drivesBy_33 : decode cX4_drivesBy 33 = .ok (.iconst 2, 1) := dk_5 (dk_at dksX4_drivesBy_1 9 rfl rfl)
theorem dX4_drivesBy_34 : decode cX4_drivesBy 34 = .ok (.iload_n 2, 1) := dk_28 (dk_at dksX4_drivesBy_1 10 rfl rfl)
theorem dX4_drivesBy_35 : decode cX4_drivesBy 35 = .ok (.aload_n 0, 1) := dk_42 (dk_at dksX4_drivesBy_1 11 rfl rfl)
theorem dX4_drivesBy_36 : decode cX4_drivesBy 36 = .ok (.getfield 69, 3) := dk_180 0 69 (dk_at dksX4_drivesBy_1 12 rfl rfl)
theorem dX4_drivesBy_39 : decode cX4_drivesBy 39 = .ok (.irem, 1) := dk_112 (dk_at dksX4_drivesBy_1 15 rfl rfl)
theorem dX4_drivesBy_40 : decode cX4_drivesBy 40 = .ok (.invokevirtual 187, 3) := dk_182 0 187 (dk_at dksX4_drivesBy_1 16 rfl rfl)
theorem dX4_drivesBy_43 : decode cX4_drivesBy 43 = .ok (.iload_n 2, 1) := dk_28 (dk_at dksX4_drivesBy_1 19 rfl rfl)
theorem dX4_drivesBy_44 : decode cX4_drivesBy 44 = .ok (.aload_n 0, 1) := dk_42 (dk_at dksX4_drivesBy_1 20 rfl rfl)
theorem dX4_drivesBy_45 : decode cX4_drivesBy 45 = .ok (.getfield 69, 3) := dk_180 0 69 (dk_at dksX4_drivesBy_1 21 rfl rfl)
theorem dX4_drivesBy_48 : decode cX4_drivesBy 48 = .ok (.idiv, 1) := dk_108 (dk_at dksX4_drivesBy_2 0 rfl rfl)
theorem dX4_drivesBy_49 : decode cX4_drivesBy 49 = .ok (.istore_n 2, 1) := dk_61 (dk_at dksX4_drivesBy_2 1 rfl rfl)
theorem dX4_drivesBy_50 : decode cX4_drivesBy 50 = .ok (.iinc 4 (-1), 3) := dk_132 4 255 (dk_at dksX4_drivesBy_2 2 rfl rfl)
theorem dX4_drivesBy_53 : decode cX4_drivesBy 53 = .ok (.goto (-37), 3) := dk_167 255 219 (dk_at dksX4_drivesBy_2 5 rfl rfl)
theorem dX4_drivesBy_56 : decode cX4_drivesBy 56 = .ok (.iconst 0, 1) := dk_3 (dk_at dksX4_drivesBy_2 8 rfl rfl)
theorem dX4_drivesBy_57 : decode cX4_drivesBy 57 = .ok (.istore 4, 2) := dk_54 4 (dk_at dksX4_drivesBy_2 9 rfl rfl)
theorem dX4_drivesBy_59 : decode cX4_drivesBy 59 = .ok (.iload 4, 2) := dk_21 4 (dk_at dksX4_drivesBy_2 11 rfl rfl)
theorem dX4_drivesBy_61 : decode cX4_drivesBy 61 = .ok (.aload_n 0, 1) := dk_42 (dk_at dksX4_drivesBy_2 13 rfl rfl)
theorem dX4_drivesBy_62 : decode cX4_drivesBy 62 = .ok (.getfield 69, 3) := dk_180 0 69 (dk_at dksX4_drivesBy_2 14 rfl rfl)
theorem dX4_drivesBy_65 : decode cX4_drivesBy 65 = .ok (.if_icmp .ge 32, 3) := dk_162 0 32 (dk_at dksX4_drivesBy_2 17 rfl rfl)
theorem dX4_drivesBy_68 : decode cX4_drivesBy 68 = .ok (.iload_n 3, 1) := dk_29 (dk_at dksX4_drivesBy_2 20 rfl rfl)
theorem dX4_drivesBy_69 : decode cX4_drivesBy 69 = .ok (.ifCond .eq 20, 3) := dk_153 0 20 (dk_at dksX4_drivesBy_2 21 rfl rfl)
theorem dX4_drivesBy_72 : decode cX4_drivesBy 72 = .ok (.aload_n 0, 1) := dk_42 (dk_at dksX4_drivesBy_3 0 rfl rfl)
theorem dX4_drivesBy_73 : decode cX4_drivesBy 73 = .ok (.iload 4, 2) := dk_21 4 (dk_at dksX4_drivesBy_3 1 rfl rfl)
theorem dX4_drivesBy_75 : decode cX4_drivesBy 75 = .ok (.invokevirtual 212, 3) := dk_182 0 212 (dk_at dksX4_drivesBy_3 3 rfl rfl)
theorem dX4_drivesBy_78 : decode cX4_drivesBy 78 = .ok (.invokestatic 229, 3) := dk_184 0 229 (dk_at dksX4_drivesBy_3 6 rfl rfl)
theorem dX4_drivesBy_81 : decode cX4_drivesBy 81 = .ok (.iconst 3, 1) := dk_6 (dk_at dksX4_drivesBy_3 9 rfl rfl)
theorem dX4_drivesBy_82 : decode cX4_drivesBy 82 = .ok (.if_icmp .gt 7, 3) := dk_163 0 7 (dk_at dksX4_drivesBy_3 10 rfl rfl)
theorem dX4_drivesBy_85 : decode cX4_drivesBy 85 = .ok (.iconst 1, 1) := dk_4 (dk_at dksX4_drivesBy_3 13 rfl rfl)
theorem dX4_drivesBy_86 : decode cX4_drivesBy 86 = .ok (.goto 4, 3) := dk_167 0 4 (dk_at dksX4_drivesBy_3 14 rfl rfl)
theorem dX4_drivesBy_89 : decode cX4_drivesBy 89 = .ok (.iconst 0, 1) := dk_3 (dk_at dksX4_drivesBy_3 17 rfl rfl)
theorem dX4_drivesBy_90 : decode cX4_drivesBy 90 = .ok (.istore_n 3, 1) := dk_62 (dk_at dksX4_drivesBy_3 18 rfl rfl)
theorem dX4_drivesBy_91 : decode cX4_drivesBy 91 = .ok (.iinc 4 1, 3) := dk_132 4 1 (dk_at dksX4_drivesBy_3 19 rfl rfl)
theorem dX4_drivesBy_94 : decode cX4_drivesBy 94 = .ok (.goto (-35), 3) := dk_167 255 221 (dk_at dksX4_drivesBy_4 0 rfl rfl)
theorem dX4_drivesBy_97 : decode cX4_drivesBy 97 = .ok (.iload_n 3, 1) := dk_29 (dk_at dksX4_drivesBy_4 3 rfl rfl)
theorem dX4_drivesBy_98 : decode cX4_drivesBy 98 = .ok (.ireturn, 1) := dk_172 (dk_at dksX4_drivesBy_4 4 rfl rfl)
abbrev cX4_near : ByteArray := prog_13_method_80_code
def yX4_near : MethodName := ⟨RX4, "near", "(I)I"⟩
def dkwX4_near_7 : List UInt8 := [154, 0, 7, 29, 167, 0, 4, 28, 172]
abbrev dktX4_near_7 : List UInt8 := dkwX4_near_7 ++ []
def dkwX4_near_6 : List UInt8 := [132, 5, 1, 167, 255, 148, 132, 4, 1, 167, 255, 130, 29, 16, 252, 160, 0, 8, 16, 252, 167, 0, 12, 27]
abbrev dktX4_near_6 : List UInt8 := dkwX4_near_6 ++ dktX4_near_7
def dkwX4_near_5 : List UInt8 := [21, 4, 104, 21, 5, 96, 167, 0, 4, 29, 62, 21, 6, 28, 162, 0, 8, 21, 6, 167, 0, 4, 28, 61]
abbrev dktX4_near_5 : List UInt8 := dkwX4_near_5 ++ dktX4_near_6
def dkwX4_near_4 : List UInt8 := [54, 6, 21, 6, 158, 0, 8, 21, 6, 167, 0, 4, 3, 54, 6, 21, 6, 28, 162, 0, 14, 16, 10]
abbrev dktX4_near_4 : List UInt8 := dkwX4_near_4 ++ dktX4_near_5
def dkwX4_near_3 : List UInt8 := [153, 0, 70, 42, 180, 0, 20, 16, 8, 21, 4, 104, 16, 6, 96, 46, 42, 21, 5, 182, 0, 178, 100]
abbrev dktX4_near_3 : List UInt8 := dkwX4_near_3 ++ dktX4_near_4
def dkwX4_near_2 : List UInt8 := [182, 0, 203, 153, 0, 90, 42, 21, 5, 182, 0, 168, 154, 0, 81, 42, 21, 5, 21, 4, 182, 0, 206]
abbrev dktX4_near_2 : List UInt8 := dkwX4_near_2 ++ dktX4_near_3
def dkwX4_near_1 : List UInt8 := [21, 4, 42, 180, 0, 75, 162, 0, 123, 3, 54, 5, 21, 5, 42, 180, 0, 72, 162, 0, 105, 42, 21, 4]
abbrev dktX4_near_1 : List UInt8 := dkwX4_near_1 ++ dktX4_near_2
def dkwX4_near_0 : List UInt8 := [27, 184, 0, 235, 154, 0, 5, 2, 172, 42, 182, 0, 209, 19, 1, 33, 61, 16, 252, 62, 3, 54, 4]
abbrev dktX4_near_0 : List UInt8 := dkwX4_near_0 ++ dktX4_near_1
theorem dksX4_near_0 : cX4_near.data.toList.drop 0 = dktX4_near_0 := by decide +kernel
theorem dksX4_near_1 : cX4_near.data.toList.drop 23 = dktX4_near_1 := dk_seg dksX4_near_0 23 rfl rfl
theorem dksX4_near_2 : cX4_near.data.toList.drop 47 = dktX4_near_2 := dk_seg dksX4_near_1 24 rfl rfl
theorem dksX4_near_3 : cX4_near.data.toList.drop 70 = dktX4_near_3 := dk_seg dksX4_near_2 23 rfl rfl
theorem dksX4_near_4 : cX4_near.data.toList.drop 93 = dktX4_near_4 := dk_seg dksX4_near_3 23 rfl rfl
theorem dksX4_near_5 : cX4_near.data.toList.drop 116 = dktX4_near_5 := dk_seg dksX4_near_4 23 rfl rfl
theorem dksX4_near_6 : cX4_near.data.toList.drop 140 = dktX4_near_6 := dk_seg dksX4_near_5 24 rfl rfl
theorem dksX4_near_7 : cX4_near.data.toList.drop 164 = dktX4_near_7 := dk_seg dksX4_near_6 24 rfl rfl
theorem dX4_near_0 : decode cX4_near 0 = .ok (.iload_n 1, 1) := dk_27 (dk_at dksX4_near_0 0 rfl rfl)
theorem dX4_near_1 : decode cX4_near 1 = .ok (.invokestatic 235, 3) := dk_184 0 235 (dk_at dksX4_near_0 1 rfl rfl)
theorem dX4_near_4 : decode cX4_near 4 = .ok (.ifCond .ne 5, 3) := dk_154 0 5 (dk_at dksX4_near_0 4 rfl rfl)
theorem dX4_near_7 : decode cX4_near 7 = .ok (.iconst (-1), 1) := dk_2 (dk_at dksX4_near_0 7 rfl rfl)
theorem dX4_near_8 : decode cX4_near 8 = .ok (.ireturn, 1) := dk_172 (dk_at dksX4_near_0 8 rfl rfl)
theorem dX4_near_9 : decode cX4_near 9 = .ok (.aload_n 0, 1) := dk_42 (dk_at dksX4_near_0 9 rfl rfl)
theorem dX4_near_10 : decode cX4_near 10 = .ok (.invokevirtual 209, 3) := dk_182 0 209 (dk_at dksX4_near_0 10 rfl rfl)
theorem dX4_near_13 : decode cX4_near 13 = .ok (.ldc_w 289, 3) := dk_19 1 33 (dk_at dksX4_near_0 13 rfl rfl)
theorem dX4_near_16 : decode cX4_near 16 = .ok (.istore_n 2, 1) := dk_61 (dk_at dksX4_near_0 16 rfl rfl)
theorem dX4_near_17 : decode cX4_near 17 = .ok (.bipush (-4), 2) := dk_16 252 (dk_at dksX4_near_0 17 rfl rfl)
theorem dX4_near_19 : decode cX4_near 19 = .ok (.istore_n 3, 1) := dk_62 (dk_at dksX4_near_0 19 rfl rfl)
theorem dX4_near_20 : decode cX4_near 20 = .ok (.iconst 0, 1) := dk_3 (dk_at dksX4_near_0 20 rfl rfl)
theorem dX4_near_21 : decode cX4_near 21 = .ok (.istore 4, 2) := dk_54 4 (dk_at dksX4_near_0 21 rfl rfl)
theorem dX4_near_23 : decode cX4_near 23 = .ok (.iload 4, 2) := dk_21 4 (dk_at dksX4_near_1 0 rfl rfl)
theorem dX4_near_25 : decode cX4_near 25 = .ok (.aload_n 0, 1) := dk_42 (dk_at dksX4_near_1 2 rfl rfl)
theorem dX4_near_26 : decode cX4_near 26 = .ok (.getfield 75, 3) := dk_180 0 75 (dk_at dksX4_near_1 3 rfl rfl)
theorem dX4_near_29 : decode cX4_near 29 = .ok (.if_icmp .ge 123, 3) := dk_162 0 123 (dk_at dksX4_near_1 6 rfl rfl)
theorem dX4_near_32 : decode cX4_near 32 = .ok (.iconst 0, 1) := dk_3 (dk_at dksX4_near_1 9 rfl rfl)
theorem dX4_near_33 : decode cX4_near 33 = .ok (.istore 5, 2) := dk_54 5 (dk_at dksX4_near_1 10 rfl rfl)
theorem dX4_near_35 : decode cX4_near 35 = .ok (.iload 5, 2) := dk_21 5 (dk_at dksX4_near_1 12 rfl rfl)
theorem dX4_near_37 : decode cX4_near 37 = .ok (.aload_n 0, 1) := dk_42 (dk_at dksX4_near_1 14 rfl rfl)
theorem dX4_near_38 : decode cX4_near 38 = .ok (.getfield 72, 3) := dk_180 0 72 (dk_at dksX4_near_1 15 rfl rfl)
theorem dX4_near_41 : decode cX4_near 41 = .ok (.if_icmp .ge 105, 3) := dk_162 0 105 (dk_at dksX4_near_1 18 rfl rfl)
theorem dX4_near_44 : decode cX4_near 44 = .ok (.aload_n 0, 1) := dk_42 (dk_at dksX4_near_1 21 rfl rfl)
theorem dX4_near_45 : decode cX4_near 45 = .ok (.iload 4, 2) := dk_21 4 (dk_at dksX4_near_1 22 rfl rfl)
theorem dX4_near_47 : decode cX4_near 47 = .ok (.invokevirtual 203, 3) := dk_182 0 203 (dk_at dksX4_near_2 0 rfl rfl)
theorem dX4_near_50 : decode cX4_near 50 = .ok (.ifCond .eq 90, 3) := dk_153 0 90 (dk_at dksX4_near_2 3 rfl rfl)
theorem dX4_near_53 : decode cX4_near 53 = .ok (.aload_n 0, 1) := dk_42 (dk_at dksX4_near_2 6 rfl rfl)
theorem dX4_near_54 : decode cX4_near 54 = .ok (.iload 5, 2) := dk_21 5 (dk_at dksX4_near_2 7 rfl rfl)
theorem dX4_near_56 : decode cX4_near 56 = .ok (.invokevirtual 168, 3) := dk_182 0 168 (dk_at dksX4_near_2 9 rfl rfl)
theorem dX4_near_59 : decode cX4_near 59 = .ok (.ifCond .ne 81, 3) := dk_154 0 81 (dk_at dksX4_near_2 12 rfl rfl)
theorem dX4_near_62 : decode cX4_near 62 = .ok (.aload_n 0, 1) := dk_42 (dk_at dksX4_near_2 15 rfl rfl)
theorem dX4_near_63 : decode cX4_near 63 = .ok (.iload 5, 2) := dk_21 5 (dk_at dksX4_near_2 16 rfl rfl)
theorem dX4_near_65 : decode cX4_near 65 = .ok (.iload 4, 2) := dk_21 4 (dk_at dksX4_near_2 18 rfl rfl)
theorem dX4_near_67 : decode cX4_near 67 = .ok (.invokevirtual 206, 3) := dk_182 0 206 (dk_at dksX4_near_2 20 rfl rfl)
theorem dX4_near_70 : decode cX4_near 70 = .ok (.ifCond .eq 70, 3) := dk_153 0 70 (dk_at dksX4_near_3 0 rfl rfl)
theorem dX4_near_73 : decode cX4_near 73 = .ok (.aload_n 0, 1) := dk_42 (dk_at dksX4_near_3 3 rfl rfl)
theorem dX4_near_74 : decode cX4_near 74 = .ok (.getfield 20, 3) := dk_180 0 20 (dk_at dksX4_near_3 4 rfl rfl)
theorem dX4_near_77 : decode cX4_near 77 = .ok (.bipush 8, 2) := dk_16 8 (dk_at dksX4_near_3 7 rfl rfl)
theorem dX4_near_79 : decode cX4_near 79 = .ok (.iload 4, 2) := dk_21 4 (dk_at dksX4_near_3 9 rfl rfl)
theorem dX4_near_81 : decode cX4_near 81 = .ok (.imul, 1) := dk_104 (dk_at dksX4_near_3 11 rfl rfl)
theorem dX4_near_82 : decode cX4_near 82 = .ok (.bipush 6, 2) := dk_16 6 (dk_at dksX4_near_3 12 rfl rfl)
theorem dX4_near_84 : decode cX4_near 84 = .ok (.iadd, 1) := dk_96 (dk_at dksX4_near_3 14 rfl rfl)
theorem dX4_near_85 : decode cX4_near 85 = .ok (.iaload, 1) := dk_46 (dk_at dksX4_near_3 15 rfl rfl)
theorem dX4_near_86 : decode cX4_near 86 = .ok (.aload_n 0, 1) := dk_42 (dk_at dksX4_near_3 16 rfl rfl)
theorem dX4_near_87 : decode cX4_near 87 = .ok (.iload 5, 2) := dk_21 5 (dk_at dksX4_near_3 17 rfl rfl)
theorem dX4_near_89 : decode cX4_near 89 = .ok (.invokevirtual 178, 3) := dk_182 0 178 (dk_at dksX4_near_3 19 rfl rfl)
theorem dX4_near_92 : decode cX4_near 92 = .ok (.isub, 1) := dk_100 (dk_at dksX4_near_3 22 rfl rfl)
theorem dX4_near_93 : decode cX4_near 93 = .ok (.istore 6, 2) := dk_54 6 (dk_at dksX4_near_4 0 rfl rfl)
theorem dX4_near_95 : decode cX4_near 95 = .ok (.iload 6, 2) := dk_21 6 (dk_at dksX4_near_4 2 rfl rfl)
theorem dX4_near_97 : decode cX4_near 97 = .ok (.ifCond .le 8, 3) := dk_158 0 8 (dk_at dksX4_near_4 4 rfl rfl)
theorem dX4_near_100 : decode cX4_near 100 = .ok (.iload 6, 2) := dk_21 6 (dk_at dksX4_near_4 7 rfl rfl)
theorem dX4_near_102 : decode cX4_near 102 = .ok (.goto 4, 3) := dk_167 0 4 (dk_at dksX4_near_4 9 rfl rfl)
theorem dX4_near_105 : decode cX4_near 105 = .ok (.iconst 0, 1) := dk_3 (dk_at dksX4_near_4 12 rfl rfl)
theorem dX4_near_106 : decode cX4_near 106 = .ok (.istore 6, 2) := dk_54 6 (dk_at dksX4_near_4 13 rfl rfl)
theorem dX4_near_108 : decode cX4_near 108 = .ok (.iload 6, 2) := dk_21 6 (dk_at dksX4_near_4 15 rfl rfl)
theorem dX4_near_110 : decode cX4_near 110 = .ok (.iload_n 2, 1) := dk_28 (dk_at dksX4_near_4 17 rfl rfl)
theorem dX4_near_111 : decode cX4_near 111 = .ok (.if_icmp .ge 14, 3) := dk_162 0 14 (dk_at dksX4_near_4 18 rfl rfl)
theorem dX4_near_114 : decode cX4_near 114 = .ok (.bipush 10, 2) := dk_16 10 (dk_at dksX4_near_4 21 rfl rfl)
theorem dX4_near_116 : decode cX4_near 116 = .ok (.iload 4, 2) := dk_21 4 (dk_at dksX4_near_5 0 rfl rfl)
theorem dX4_near_118 : decode cX4_near 118 = .ok (.imul, 1) := dk_104 (dk_at dksX4_near_5 2 rfl rfl)
theorem dX4_near_119 : decode cX4_near 119 = .ok (.iload 5, 2) := dk_21 5 (dk_at dksX4_near_5 3 rfl rfl)
theorem dX4_near_121 : decode cX4_near 121 = .ok (.iadd, 1) := dk_96 (dk_at dksX4_near_5 5 rfl rfl)
theorem dX4_near_122 : decode cX4_near 122 = .ok (.goto 4, 3) := dk_167 0 4 (dk_at dksX4_near_5 6 rfl rfl)
theorem dX4_near_125 : decode cX4_near 125 = .ok (.iload_n 3, 1) := dk_29 (dk_at dksX4_near_5 9 rfl rfl)
theorem dX4_near_126 : decode cX4_near 126 = .ok (.istore_n 3, 1) := dk_62 (dk_at dksX4_near_5 10 rfl rfl)
theorem dX4_near_127 : decode cX4_near 127 = .ok (.iload 6, 2) := dk_21 6 (dk_at dksX4_near_5 11 rfl rfl)
theorem dX4_near_129 : decode cX4_near 129 = .ok (.iload_n 2, 1) := dk_28 (dk_at dksX4_near_5 13 rfl rfl)
theorem dX4_near_130 : decode cX4_near 130 = .ok (.if_icmp .ge 8, 3) := dk_162 0 8 (dk_at dksX4_near_5 14 rfl rfl)
theorem dX4_near_133 : decode cX4_near 133 = .ok (.iload 6, 2) := dk_21 6 (dk_at dksX4_near_5 17 rfl rfl)
theorem dX4_near_135 : decode cX4_near 135 = .ok (.goto 4, 3) := dk_167 0 4 (dk_at dksX4_near_5 19 rfl rfl)
theorem dX4_near_138 : decode cX4_near 138 = .ok (.iload_n 2, 1) := dk_28 (dk_at dksX4_near_5 22 rfl rfl)
theorem dX4_near_139 : decode cX4_near 139 = .ok (.istore_n 2, 1) := dk_61 (dk_at dksX4_near_5 23 rfl rfl)
theorem dX4_near_140 : decode cX4_near 140 = .ok (.iinc 5 1, 3) := dk_132 5 1 (dk_at dksX4_near_6 0 rfl rfl)
theorem dX4_near_143 : decode cX4_near 143 = .ok (.goto (-108), 3) := dk_167 255 148 (dk_at dksX4_near_6 3 rfl rfl)
theorem dX4_near_146 : decode cX4_near 146 = .ok (.iinc 4 1, 3) := dk_132 4 1 (dk_at dksX4_near_6 6 rfl rfl)
theorem dX4_near_149 : decode cX4_near 149 = .ok (.goto (-126), 3) := dk_167 255 130 (dk_at dksX4_near_6 9 rfl rfl)
theorem dX4_near_152 : decode cX4_near 152 = .ok (.iload_n 3, 1) := dk_29 (dk_at dksX4_near_6 12 rfl rfl)
theorem dX4_near_153 : decode cX4_near 153 = .ok (.bipush (-4), 2) := dk_16 252 (dk_at dksX4_near_6 13 rfl rfl)
theorem dX4_near_155 : decode cX4_near 155 = .ok (.if_icmp .ne 8, 3) := dk_160 0 8 (dk_at dksX4_near_6 15 rfl rfl)
theorem dX4_near_158 : decode cX4_near 158 = .ok (.bipush (-4), 2) := dk_16 252 (dk_at dksX4_near_6 18 rfl rfl)
theorem dX4_near_160 : decode cX4_near 160 = .ok (.goto 12, 3) := dk_167 0 12 (dk_at dksX4_near_6 20 rfl rfl)
theorem dX4_near_163 : decode cX4_near 163 = .ok (.iload_n 1, 1) := dk_27 (dk_at dksX4_near_6 23 rfl rfl)
theorem dX4_near_164 : decode cX4_near 164 = .ok (.ifCond .ne 7, 3) := dk_154 0 7 (dk_at dksX4_near_7 0 rfl rfl)
theorem dX4_near_167 : decode cX4_near 167 = .ok (.iload_n 3, 1) := dk_29 (dk_at dksX4_near_7 3 rfl rfl)
theorem dX4_near_168 : decode cX4_near 168 = .ok (.goto 4, 3) := dk_167 0 4 (dk_at dksX4_near_7 4 rfl rfl)
theorem dX4_near_171 : decode cX4_near 171 = .ok (.iload_n 2, 1) := dk_28 (dk_at dksX4_near_7 7 rfl rfl)
theorem dX4_near_172 : decode cX4_near 172 = .ok (.ireturn, 1) := dk_172 (dk_at dksX4_near_7 8 rfl rfl)
abbrev cX4_keeps : ByteArray := prog_13_method_84_code
def yX4_keeps : MethodName := ⟨RX4, "keeps", "(IIII)J"⟩
def dkwX4_keeps_2 : List UInt8 := [29, 182, 1, 54, 42, 180, 1, 38, 42, 180, 1, 45, 21, 4, 184, 1, 57, 173]
abbrev dktX4_keeps_2 : List UInt8 := dkwX4_keeps_2 ++ []
def dkwX4_keeps_1 : List UInt8 := [20, 1, 50, 184, 0, 80, 153, 0, 11, 21, 4, 184, 0, 235, 154, 0, 7, 20, 1, 52, 173, 42, 27, 28]
abbrev dktX4_keeps_1 : List UInt8 := dkwX4_keeps_1 ++ dktX4_keeps_2
def dkwX4_keeps_0 : List UInt8 := [27, 133, 9, 20, 1, 48, 184, 0, 80, 153, 0, 31, 42, 28, 182, 0, 223, 153, 0, 23, 29, 133, 9]
abbrev dktX4_keeps_0 : List UInt8 := dkwX4_keeps_0 ++ dktX4_keeps_1
theorem dksX4_keeps_0 : cX4_keeps.data.toList.drop 0 = dktX4_keeps_0 := by decide +kernel
theorem dksX4_keeps_1 : cX4_keeps.data.toList.drop 23 = dktX4_keeps_1 := dk_seg dksX4_keeps_0 23 rfl rfl
theorem dksX4_keeps_2 : cX4_keeps.data.toList.drop 47 = dktX4_keeps_2 := dk_seg dksX4_keeps_1 24 rfl rfl
theorem dX4_keeps_0 : decode cX4_keeps 0 = .ok (.iload_n 1, 1) := dk_27 (dk_at dksX4_keeps_0 0 rfl rfl)
theorem dX4_keeps_1 : decode cX4_keeps 1 = .ok (.i2l, 1) := dk_133 (dk_at dksX4_keeps_0 1 rfl rfl)
theorem dX4_keeps_2 : decode cX4_keeps 2 = .ok (.lconst 0, 1) := dk_9 (dk_at dksX4_keeps_0 2 rfl rfl)
theorem dX4_keeps_3 : decode cX4_keeps 3 = .ok (.ldc2_w 304, 3) := dk_20 1 48 (dk_at dksX4_keeps_0 3 rfl rfl)
theorem dX4_keeps_6 : decode cX4_keeps 6 = .ok (.invokestatic 80, 3) := dk_184 0 80 (dk_at dksX4_keeps_0 6 rfl rfl)
theorem dX4_keeps_9 : decode cX4_keeps 9 = .ok (.ifCond .eq 31, 3) := dk_153 0 31 (dk_at dksX4_keeps_0 9 rfl rfl)
theorem dX4_keeps_12 : decode cX4_keeps 12 = .ok (.aload_n 0, 1) := dk_42 (dk_at dksX4_keeps_0 12 rfl rfl)
theorem dX4_keeps_13 : decode cX4_keeps 13 = .ok (.iload_n 2, 1) := dk_28 (dk_at dksX4_keeps_0 13 rfl rfl)
theorem dX4_keeps_14 : decode cX4_keeps 14 = .ok (.invokevirtual 223, 3) := dk_182 0 223 (dk_at dksX4_keeps_0 14 rfl rfl)
theorem dX4_keeps_17 : decode cX4_keeps 17 = .ok (.ifCond .eq 23, 3) := dk_153 0 23 (dk_at dksX4_keeps_0 17 rfl rfl)
theorem dX4_keeps_20 : decode cX4_keeps 20 = .ok (.iload_n 3, 1) := dk_29 (dk_at dksX4_keeps_0 20 rfl rfl)
theorem dX4_keeps_21 : decode cX4_keeps 21 = .ok (.i2l, 1) := dk_133 (dk_at dksX4_keeps_0 21 rfl rfl)
theorem dX4_keeps_22 : decode cX4_keeps 22 = .ok (.lconst 0, 1) := dk_9 (dk_at dksX4_keeps_0 22 rfl rfl)
theorem dX4_keeps_23 : decode cX4_keeps 23 = .ok (.ldc2_w 306, 3) := dk_20 1 50 (dk_at dksX4_keeps_1 0 rfl rfl)
theorem dX4_keeps_26 : decode cX4_keeps 26 = .ok (.invokestatic 80, 3) := dk_184 0 80 (dk_at dksX4_keeps_1 3 rfl rfl)
theorem dX4_keeps_29 : decode cX4_keeps 29 = .ok (.ifCond .eq 11, 3) := dk_153 0 11 (dk_at dksX4_keeps_1 6 rfl rfl)
theorem dX4_keeps_32 : decode cX4_keeps 32 = .ok (.iload 4, 2) := dk_21 4 (dk_at dksX4_keeps_1 9 rfl rfl)
theorem dX4_keeps_34 : decode cX4_keeps 34 = .ok (.invokestatic 235, 3) := dk_184 0 235 (dk_at dksX4_keeps_1 11 rfl rfl)
theorem dX4_keeps_37 : decode cX4_keeps 37 = .ok (.ifCond .ne 7, 3) := dk_154 0 7 (dk_at dksX4_keeps_1 14 rfl rfl)
theorem dX4_keeps_40 : decode cX4_keeps 40 = .ok (.ldc2_w 308, 3) := dk_20 1 52 (dk_at dksX4_keeps_1 17 rfl rfl)
theorem dX4_keeps_43 : decode cX4_keeps 43 = .ok (.lreturn, 1) := dk_173 (dk_at dksX4_keeps_1 20 rfl rfl)
theorem dX4_keeps_44 : decode cX4_keeps 44 = .ok (.aload_n 0, 1) := dk_42 (dk_at dksX4_keeps_1 21 rfl rfl)
theorem dX4_keeps_45 : decode cX4_keeps 45 = .ok (.iload_n 1, 1) := dk_27 (dk_at dksX4_keeps_1 22 rfl rfl)
theorem dX4_keeps_46 : decode cX4_keeps 46 = .ok (.iload_n 2, 1) := dk_28 (dk_at dksX4_keeps_1 23 rfl rfl)
theorem dX4_keeps_47 : decode cX4_keeps 47 = .ok (.iload_n 3, 1) := dk_29 (dk_at dksX4_keeps_2 0 rfl rfl)
theorem dX4_keeps_48 : decode cX4_keeps 48 = .ok (.invokevirtual 310, 3) := dk_182 1 54 (dk_at dksX4_keeps_2 1 rfl rfl)
theorem dX4_keeps_51 : decode cX4_keeps 51 = .ok (.aload_n 0, 1) := dk_42 (dk_at dksX4_keeps_2 4 rfl rfl)
theorem dX4_keeps_52 : decode cX4_keeps 52 = .ok (.getfield 294, 3) := dk_180 1 38 (dk_at dksX4_keeps_2 5 rfl rfl)
theorem dX4_keeps_55 : decode cX4_keeps 55 = .ok (.aload_n 0, 1) := dk_42 (dk_at dksX4_keeps_2 8 rfl rfl)
theorem dX4_keeps_56 : decode cX4_keeps 56 = .ok (.getfield 301, 3) := dk_180 1 45 (dk_at dksX4_keeps_2 9 rfl rfl)
theorem dX4_keeps_59 : decode cX4_keeps 59 = .ok (.iload 4, 2) := dk_21 4 (dk_at dksX4_keeps_2 12 rfl rfl)
theorem dX4_keeps_61 : decode cX4_keeps 61 = .ok (.invokestatic 313, 3) := dk_184 1 57 (dk_at dksX4_keeps_2 14 rfl rfl)
theorem dX4_keeps_64 : decode cX4_keeps 64 = .ok (.lreturn, 1) := dk_173 (dk_at dksX4_keeps_2 17 rfl rfl)
abbrev cX4_findKept : ByteArray := prog_13_method_83_code
def yX4_findKept : MethodName := ⟨RX4, "findKept", "(III)V"⟩
def dkwX4_findKept_8 : List UInt8 := [132, 5, 1, 167, 255, 127, 177]
abbrev dktX4_findKept_8 : List UInt8 := dkwX4_findKept_8 ++ []
def dkwX4_findKept_7 : List UInt8 := [167, 0, 4, 9, 97, 181, 1, 38, 42, 89, 180, 1, 42, 21, 8, 133, 22, 6, 105, 97, 181, 1, 42]
abbrev dktX4_findKept_7 : List UInt8 := dkwX4_findKept_7 ++ dktX4_findKept_8
def dkwX4_findKept_6 : List UInt8 := [184, 0, 154, 100, 54, 8, 132, 9, 1, 167, 255, 186, 42, 89, 180, 1, 38, 21, 8, 158, 0, 8, 22, 6]
abbrev dktX4_findKept_6 : List UInt8 := dkwX4_findKept_6 ++ dktX4_findKept_7
def dkwX4_findKept_5 : List UInt8 := [27, 100, 133, 105, 55, 6, 21, 8, 21, 10, 153, 0, 12, 21, 8, 158, 0, 7, 4, 167, 0, 4, 3]
abbrev dktX4_findKept_5 : List UInt8 := dkwX4_findKept_5 ++ dktX4_findKept_6
def dkwX4_findKept_4 : List UInt8 := [160, 0, 7, 4, 167, 0, 4, 3, 54, 10, 22, 6, 21, 10, 153, 0, 8, 27, 133, 167, 0, 8, 16, 10]
abbrev dktX4_findKept_4 : List UInt8 := dkwX4_findKept_4 ++ dktX4_findKept_5
def dkwX4_findKept_3 : List UInt8 := [10, 55, 6, 21, 4, 54, 8, 3, 54, 9, 21, 9, 29, 162, 0, 70, 21, 5, 21, 9, 122, 4, 126, 4]
abbrev dktX4_findKept_3 : List UInt8 := dkwX4_findKept_3 ++ dktX4_findKept_4
def dkwX4_findKept_2 : List UInt8 := [20, 1, 48, 105, 181, 1, 45, 132, 5, 1, 167, 255, 235, 3, 54, 5, 21, 5, 4, 29, 120, 162, 0, 127]
abbrev dktX4_findKept_2 : List UInt8 := dkwX4_findKept_2 ++ dktX4_findKept_3
def dkwX4_findKept_1 : List UInt8 := [181, 1, 42, 42, 10, 181, 1, 45, 3, 54, 5, 21, 5, 29, 162, 0, 21, 42, 89, 180, 1, 45]
abbrev dktX4_findKept_1 : List UInt8 := dkwX4_findKept_1 ++ dktX4_findKept_2
def dkwX4_findKept_0 : List UInt8 := [42, 180, 0, 7, 16, 8, 16, 9, 28, 104, 96, 6, 96, 46, 54, 4, 42, 9, 181, 1, 38, 42, 9]
abbrev dktX4_findKept_0 : List UInt8 := dkwX4_findKept_0 ++ dktX4_findKept_1
theorem dksX4_findKept_0 : cX4_findKept.data.toList.drop 0 = dktX4_findKept_0 := by decide +kernel
theorem dksX4_findKept_1 : cX4_findKept.data.toList.drop 23 = dktX4_findKept_1 := dk_seg dksX4_findKept_0 23 rfl rfl
theorem dksX4_findKept_2 : cX4_findKept.data.toList.drop 45 = dktX4_findKept_2 := dk_seg dksX4_findKept_1 22 rfl rfl
theorem dksX4_findKept_3 : cX4_findKept.data.toList.drop 69 = dktX4_findKept_3 := dk_seg dksX4_findKept_2 24 rfl rfl
theorem dksX4_findKept_4 : cX4_findKept.data.toList.drop 93 = dktX4_findKept_4 := dk_seg dksX4_findKept_3 24 rfl rfl
theorem dksX4_findKept_5 : cX4_findKept.data.toList.drop 117 = dktX4_findKept_5 := dk_seg dksX4_findKept_4 24 rfl rfl
theorem dksX4_findKept_6 : cX4_findKept.data.toList.drop 140 = dktX4_findKept_6 := dk_seg dksX4_findKept_5 23 rfl rfl
theorem dksX4_findKept_7 : cX4_findKept.data.toList.drop 164 = dktX4_findKept_7 := dk_seg dksX4_findKept_6 24 rfl rfl
theorem dksX4_findKept_8 : cX4_findKept.data.toList.drop 187 = dktX4_findKept_8 := dk_seg dksX4_findKept_7 23 rfl rfl
theorem dX4_findKept_0 : decode cX4_findKept 0 = .ok (.aload_n 0, 1) := dk_42 (dk_at dksX4_findKept_0 0 rfl rfl)
theorem dX4_findKept_1 : decode cX4_findKept 1 = .ok (.getfield 7, 3) := dk_180 0 7 (dk_at dksX4_findKept_0 1 rfl rfl)
theorem dX4_findKept_4 : decode cX4_findKept 4 = .ok (.bipush 8, 2) := dk_16 8 (dk_at dksX4_findKept_0 4 rfl rfl)
theorem dX4_findKept_6 : decode cX4_findKept 6 = .ok (.bipush 9, 2) := dk_16 9 (dk_at dksX4_findKept_0 6 rfl rfl)
theorem dX4_findKept_8 : decode cX4_findKept 8 = .ok (.iload_n 2, 1) := dk_28 (dk_at dksX4_findKept_0 8 rfl rfl)
theorem dX4_findKept_9 : decode cX4_findKept 9 = .ok (.imul, 1) := dk_104 (dk_at dksX4_findKept_0 9 rfl rfl)
theorem dX4_findKept_10 : decode cX4_findKept 10 = .ok (.iadd, 1) := dk_96 (dk_at dksX4_findKept_0 10 rfl rfl)
theorem dX4_findKept_11 : decode cX4_findKept 11 = .ok (.iconst 3, 1) := dk_6 (dk_at dksX4_findKept_0 11 rfl rfl)
theorem dX4_findKept_12 : decode cX4_findKept 12 = .ok (.iadd, 1) := dk_96 (dk_at dksX4_findKept_0 12 rfl rfl)
theorem dX4_findKept_13 : decode cX4_findKept 13 = .ok (.iaload, 1) := dk_46 (dk_at dksX4_findKept_0 13 rfl rfl)
theorem dX4_findKept_14 : decode cX4_findKept 14 = .ok (.istore 4, 2) := dk_54 4 (dk_at dksX4_findKept_0 14 rfl rfl)
theorem dX4_findKept_16 : decode cX4_findKept 16 = .ok (.aload_n 0, 1) := dk_42 (dk_at dksX4_findKept_0 16 rfl rfl)
theorem dX4_findKept_17 : decode cX4_findKept 17 = .ok (.lconst 0, 1) := dk_9 (dk_at dksX4_findKept_0 17 rfl rfl)
theorem dX4_findKept_18 : decode cX4_findKept 18 = .ok (.putfield 294, 3) := dk_181 1 38 (dk_at dksX4_findKept_0 18 rfl rfl)
theorem dX4_findKept_21 : decode cX4_findKept 21 = .ok (.aload_n 0, 1) := dk_42 (dk_at dksX4_findKept_0 21 rfl rfl)
theorem dX4_findKept_22 : decode cX4_findKept 22 = .ok (.lconst 0, 1) := dk_9 (dk_at dksX4_findKept_0 22 rfl rfl)
theorem dX4_findKept_23 : decode cX4_findKept 23 = .ok (.putfield 298, 3) := dk_181 1 42 (dk_at dksX4_findKept_1 0 rfl rfl)
theorem dX4_findKept_26 : decode cX4_findKept 26 = .ok (.aload_n 0, 1) := dk_42 (dk_at dksX4_findKept_1 3 rfl rfl)
theorem dX4_findKept_27 : decode cX4_findKept 27 = .ok (.lconst 1, 1) := dk_10 (dk_at dksX4_findKept_1 4 rfl rfl)
theorem dX4_findKept_28 : decode cX4_findKept 28 = .ok (.putfield 301, 3) := dk_181 1 45 (dk_at dksX4_findKept_1 5 rfl rfl)
theorem dX4_findKept_31 : decode cX4_findKept 31 = .ok (.iconst 0, 1) := dk_3 (dk_at dksX4_findKept_1 8 rfl rfl)
theorem dX4_findKept_32 : decode cX4_findKept 32 = .ok (.istore 5, 2) := dk_54 5 (dk_at dksX4_findKept_1 9 rfl rfl)
theorem dX4_findKept_34 : decode cX4_findKept 34 = .ok (.iload 5, 2) := dk_21 5 (dk_at dksX4_findKept_1 11 rfl rfl)
theorem dX4_findKept_36 : decode cX4_findKept 36 = .ok (.iload_n 3, 1) := dk_29 (dk_at dksX4_findKept_1 13 rfl rfl)
theorem dX4_findKept_37 : decode cX4_findKept 37 = .ok (.if_icmp .ge 21, 3) := dk_162 0 21 (dk_at dksX4_findKept_1 14 rfl rfl)
theorem dX4_findKept_40 : decode cX4_findKept 40 = .ok (.aload_n 0, 1) := dk_42 (dk_at dksX4_findKept_1 17 rfl rfl)
theorem dX4_findKept_41 : decode cX4_findKept 41 = .ok (.dup, 1) := dk_89 (dk_at dksX4_findKept_1 18 rfl rfl)
theorem dX4_findKept_42 : decode cX4_findKept 42 = .ok (.getfield 301, 3) := dk_180 1 45 (dk_at dksX4_findKept_1 19 rfl rfl)
theorem dX4_findKept_45 : decode cX4_findKept 45 = .ok (.ldc2_w 304, 3) := dk_20 1 48 (dk_at dksX4_findKept_2 0 rfl rfl)
theorem dX4_findKept_48 : decode cX4_findKept 48 = .ok (.lmul, 1) := dk_105 (dk_at dksX4_findKept_2 3 rfl rfl)
theorem dX4_findKept_49 : decode cX4_findKept 49 = .ok (.putfield 301, 3) := dk_181 1 45 (dk_at dksX4_findKept_2 4 rfl rfl)
theorem dX4_findKept_52 : decode cX4_findKept 52 = .ok (.iinc 5 1, 3) := dk_132 5 1 (dk_at dksX4_findKept_2 7 rfl rfl)
theorem dX4_findKept_55 : decode cX4_findKept 55 = .ok (.goto (-21), 3) := dk_167 255 235 (dk_at dksX4_findKept_2 10 rfl rfl)
theorem dX4_findKept_58 : decode cX4_findKept 58 = .ok (.iconst 0, 1) := dk_3 (dk_at dksX4_findKept_2 13 rfl rfl)
theorem dX4_findKept_59 : decode cX4_findKept 59 = .ok (.istore 5, 2) := dk_54 5 (dk_at dksX4_findKept_2 14 rfl rfl)
theorem dX4_findKept_61 : decode cX4_findKept 61 = .ok (.iload 5, 2) := dk_21 5 (dk_at dksX4_findKept_2 16 rfl rfl)
theorem dX4_findKept_63 : decode cX4_findKept 63 = .ok (.iconst 1, 1) := dk_4 (dk_at dksX4_findKept_2 18 rfl rfl)
theorem dX4_findKept_64 : decode cX4_findKept 64 = .ok (.iload_n 3, 1) := dk_29 (dk_at dksX4_findKept_2 19 rfl rfl)
theorem dX4_findKept_65 : decode cX4_findKept 65 = .ok (.ishl, 1) := dk_120 (dk_at dksX4_findKept_2 20 rfl rfl)
theorem dX4_findKept_66 : decode cX4_findKept 66 = .ok (.if_icmp .ge 127, 3) := dk_162 0 127 (dk_at dksX4_findKept_2 21 rfl rfl)
theorem dX4_findKept_69 : decode cX4_findKept 69 = .ok (.lconst 1, 1) := dk_10 (dk_at dksX4_findKept_3 0 rfl rfl)
theorem dX4_findKept_70 : decode cX4_findKept 70 = .ok (.lstore 6, 2) := dk_55 6 (dk_at dksX4_findKept_3 1 rfl rfl)
theorem dX4_findKept_72 : decode cX4_findKept 72 = .ok (.iload 4, 2) := dk_21 4 (dk_at dksX4_findKept_3 3 rfl rfl)
theorem dX4_findKept_74 : decode cX4_findKept 74 = .ok (.istore 8, 2) := dk_54 8 (dk_at dksX4_findKept_3 5 rfl rfl)
theorem dX4_findKept_76 : decode cX4_findKept 76 = .ok (.iconst 0, 1) := dk_3 (dk_at dksX4_findKept_3 7 rfl rfl)
theorem dX4_findKept_77 : decode cX4_findKept 77 = .ok (.istore 9, 2) := dk_54 9 (dk_at dksX4_findKept_3 8 rfl rfl)
theorem dX4_findKept_79 : decode cX4_findKept 79 = .ok (.iload 9, 2) := dk_21 9 (dk_at dksX4_findKept_3 10 rfl rfl)
theorem dX4_findKept_81 : decode cX4_findKept 81 = .ok (.iload_n 3, 1) := dk_29 (dk_at dksX4_findKept_3 12 rfl rfl)
theorem dX4_findKept_82 : decode cX4_findKept 82 = .ok (.if_icmp .ge 70, 3) := dk_162 0 70 (dk_at dksX4_findKept_3 13 rfl rfl)
theorem dX4_findKept_85 : decode cX4_findKept 85 = .ok (.iload 5, 2) := dk_21 5 (dk_at dksX4_findKept_3 16 rfl rfl)
theorem dX4_findKept_87 : decode cX4_findKept 87 = .ok (.iload 9, 2) := dk_21 9 (dk_at dksX4_findKept_3 18 rfl rfl)
theorem dX4_findKept_89 : decode cX4_findKept 89 = .ok (.ishr, 1) := dk_122 (dk_at dksX4_findKept_3 20 rfl rfl)
theorem dX4_findKept_90 : decode cX4_findKept 90 = .ok (.iconst 1, 1) := dk_4 (dk_at dksX4_findKept_3 21 rfl rfl)
theorem dX4_findKept_91 : decode cX4_findKept 91 = .ok (.iand, 1) := dk_126 (dk_at dksX4_findKept_3 22 rfl rfl)
theorem dX4_findKept_92 : decode cX4_findKept 92 = .ok (.iconst 1, 1) := dk_4 (dk_at dksX4_findKept_3 23 rfl rfl)
theorem dX4_findKept_93 : decode cX4_findKept 93 = .ok (.if_icmp .ne 7, 3) := dk_160 0 7 (dk_at dksX4_findKept_4 0 rfl rfl)
theorem dX4_findKept_96 : decode cX4_findKept 96 = .ok (.iconst 1, 1) := dk_4 (dk_at dksX4_findKept_4 3 rfl rfl)
theorem dX4_findKept_97 : decode cX4_findKept 97 = .ok (.goto 4, 3) := dk_167 0 4 (dk_at dksX4_findKept_4 4 rfl rfl)
theorem dX4_findKept_100 : decode cX4_findKept 100 = .ok (.iconst 0, 1) := dk_3 (dk_at dksX4_findKept_4 7 rfl rfl)
theorem dX4_findKept_101 : decode cX4_findKept 101 = .ok (.istore 10, 2) := dk_54 10 (dk_at dksX4_findKept_4 8 rfl rfl)
theorem dX4_findKept_103 : decode cX4_findKept 103 = .ok (.lload 6, 2) := dk_22 6 (dk_at dksX4_findKept_4 10 rfl rfl)
theorem dX4_findKept_105 : decode cX4_findKept 105 = .ok (.iload 10, 2) := dk_21 10 (dk_at dksX4_findKept_4 12 rfl rfl)
theorem dX4_findKept_107 : decode cX4_findKept 107 = .ok (.ifCond .eq 8, 3) := dk_153 0 8 (dk_at dksX4_findKept_4 14 rfl rfl)
theorem dX4_findKept_110 : decode cX4_findKept 110 = .ok (.iload_n 1, 1) := dk_27 (dk_at dksX4_findKept_4 17 rfl rfl)
theorem dX4_findKept_111 : decode cX4_findKept 111 = .ok (.i2l, 1) := dk_133 (dk_at dksX4_findKept_4 18 rfl rfl)
theorem dX4_findKept_112 : decode cX4_findKept 112 = .ok (.goto 8, 3) := dk_167 0 8 (dk_at dksX4_findKept_4 19 rfl rfl)
theorem dX4_findKept_115 : decode cX4_findKept 115 = .ok (.bipush 10, 2) := dk_16 10 (dk_at dksX4_findKept_4 22 rfl rfl)
theorem dX4_findKept_117 : decode cX4_findKept 117 = .ok (.iload_n 1, 1) := dk_27 (dk_at dksX4_findKept_5 0 rfl rfl)
theorem dX4_findKept_118 : decode cX4_findKept 118 = .ok (.isub, 1) := dk_100 (dk_at dksX4_findKept_5 1 rfl rfl)
theorem dX4_findKept_119 : decode cX4_findKept 119 = .ok (.i2l, 1) := dk_133 (dk_at dksX4_findKept_5 2 rfl rfl)
theorem dX4_findKept_120 : decode cX4_findKept 120 = .ok (.lmul, 1) := dk_105 (dk_at dksX4_findKept_5 3 rfl rfl)
theorem dX4_findKept_121 : decode cX4_findKept 121 = .ok (.lstore 6, 2) := dk_55 6 (dk_at dksX4_findKept_5 4 rfl rfl)
theorem dX4_findKept_123 : decode cX4_findKept 123 = .ok (.iload 8, 2) := dk_21 8 (dk_at dksX4_findKept_5 6 rfl rfl)
theorem dX4_findKept_125 : decode cX4_findKept 125 = .ok (.iload 10, 2) := dk_21 10 (dk_at dksX4_findKept_5 8 rfl rfl)
theorem dX4_findKept_127 : decode cX4_findKept 127 = .ok (.ifCond .eq 12, 3) := dk_153 0 12 (dk_at dksX4_findKept_5 10 rfl rfl)
theorem dX4_findKept_130 : decode cX4_findKept 130 = .ok (.iload 8, 2) := dk_21 8 (dk_at dksX4_findKept_5 13 rfl rfl)
theorem dX4_findKept_132 : decode cX4_findKept 132 = .ok (.ifCond .le 7, 3) := dk_158 0 7 (dk_at dksX4_findKept_5 15 rfl rfl)
theorem dX4_findKept_135 : decode cX4_findKept 135 = .ok (.iconst 1, 1) := dk_4 (dk_at dksX4_findKept_5 18 rfl rfl)
theorem dX4_findKept_136 : decode cX4_findKept 136 = .ok (.goto 4, 3) := dk_167 0 4 (dk_at dksX4_findKept_5 19 rfl rfl)
theorem dX4_findKept_139 : decode cX4_findKept 139 = .ok (.iconst 0, 1) := dk_3 (dk_at dksX4_findKept_5 22 rfl rfl)
theorem dX4_findKept_140 : decode cX4_findKept 140 = .ok (.invokestatic 154, 3) := dk_184 0 154 (dk_at dksX4_findKept_6 0 rfl rfl)
theorem dX4_findKept_143 : decode cX4_findKept 143 = .ok (.isub, 1) := dk_100 (dk_at dksX4_findKept_6 3 rfl rfl)
theorem dX4_findKept_144 : decode cX4_findKept 144 = .ok (.istore 8, 2) := dk_54 8 (dk_at dksX4_findKept_6 4 rfl rfl)
theorem dX4_findKept_146 : decode cX4_findKept 146 = .ok (.iinc 9 1, 3) := dk_132 9 1 (dk_at dksX4_findKept_6 6 rfl rfl)
theorem dX4_findKept_149 : decode cX4_findKept 149 = .ok (.goto (-70), 3) := dk_167 255 186 (dk_at dksX4_findKept_6 9 rfl rfl)
theorem dX4_findKept_152 : decode cX4_findKept 152 = .ok (.aload_n 0, 1) := dk_42 (dk_at dksX4_findKept_6 12 rfl rfl)
theorem dX4_findKept_153 : decode cX4_findKept 153 = .ok (.dup, 1) := dk_89 (dk_at dksX4_findKept_6 13 rfl rfl)
theorem dX4_findKept_154 : decode cX4_findKept 154 = .ok (.getfield 294, 3) := dk_180 1 38 (dk_at dksX4_findKept_6 14 rfl rfl)
theorem dX4_findKept_157 : decode cX4_findKept 157 = .ok (.iload 8, 2) := dk_21 8 (dk_at dksX4_findKept_6 17 rfl rfl)
theorem dX4_findKept_159 : decode cX4_findKept 159 = .ok (.ifCond .le 8, 3) := dk_158 0 8 (dk_at dksX4_findKept_6 19 rfl rfl)
theorem dX4_findKept_162 : decode cX4_findKept 162 = .ok (.lload 6, 2) := dk_22 6 (dk_at dksX4_findKept_6 22 rfl rfl)
theorem dX4_findKept_164 : decode cX4_findKept 164 = .ok (.goto 4, 3) := dk_167 0 4 (dk_at dksX4_findKept_7 0 rfl rfl)
theorem dX4_findKept_167 : decode cX4_findKept 167 = .ok (.lconst 0, 1) := dk_9 (dk_at dksX4_findKept_7 3 rfl rfl)
theorem dX4_findKept_168 : decode cX4_findKept 168 = .ok (.ladd, 1) := dk_97 (dk_at dksX4_findKept_7 4 rfl rfl)
theorem dX4_findKept_169 : decode cX4_findKept 169 = .ok (.putfield 294, 3) := dk_181 1 38 (dk_at dksX4_findKept_7 5 rfl rfl)
theorem dX4_findKept_172 : decode cX4_findKept 172 = .ok (.aload_n 0, 1) := dk_42 (dk_at dksX4_findKept_7 8 rfl rfl)
theorem dX4_findKept_173 : decode cX4_findKept 173 = .ok (.dup, 1) := dk_89 (dk_at dksX4_findKept_7 9 rfl rfl)
theorem dX4_findKept_174 : decode cX4_findKept 174 = .ok (.getfield 298, 3) := dk_180 1 42 (dk_at dksX4_findKept_7 10 rfl rfl)
theorem dX4_findKept_177 : decode cX4_findKept 177 = .ok (.iload 8, 2) := dk_21 8 (dk_at dksX4_findKept_7 13 rfl rfl)
theorem dX4_findKept_179 : decode cX4_findKept 179 = .ok (.i2l, 1) := dk_133 (dk_at dksX4_findKept_7 15 rfl rfl)
theorem dX4_findKept_180 : decode cX4_findKept 180 = .ok (.lload 6, 2) := dk_22 6 (dk_at dksX4_findKept_7 16 rfl rfl)
theorem dX4_findKept_182 : decode cX4_findKept 182 = .ok (.lmul, 1) := dk_105 (dk_at dksX4_findKept_7 18 rfl rfl)
theorem dX4_findKept_183 : decode cX4_findKept 183 = .ok (.ladd, 1) := dk_97 (dk_at dksX4_findKept_7 19 rfl rfl)
theorem dX4_findKept_184 : decode cX4_findKept 184 = .ok (.putfield 298, 3) := dk_181 1 42 (dk_at dksX4_findKept_7 20 rfl rfl)
theorem dX4_findKept_187 : decode cX4_findKept 187 = .ok (.iinc 5 1, 3) := dk_132 5 1 (dk_at dksX4_findKept_8 0 rfl rfl)
theorem dX4_findKept_190 : decode cX4_findKept 190 = .ok (.goto (-129), 3) := dk_167 255 127 (dk_at dksX4_findKept_8 3 rfl rfl)
theorem dX4_findKept_193 : decode cX4_findKept 193 = .ok (.return_, 1) := dk_177 (dk_at dksX4_findKept_8 6 rfl rfl)
abbrev cX4_told : ByteArray := prog_13_method_82_code
def yX4_told : MethodName := ⟨RX4, "told", "(JJI)J"⟩
def dkwX4_told_0 : List UInt8 := [32, 30, 184, 1, 34, 55, 5, 21, 4, 154, 0, 10, 30, 22, 5, 109, 167, 0, 7, 32, 22, 5, 109, 173]
abbrev dktX4_told_0 : List UInt8 := dkwX4_told_0 ++ []
theorem dksX4_told_0 : cX4_told.data.toList.drop 0 = dktX4_told_0 := by decide +kernel
theorem dX4_told_0 : decode cX4_told 0 = .ok (.lload_n 2, 1) := dk_32 (dk_at dksX4_told_0 0 rfl rfl)
theorem dX4_told_1 : decode cX4_told 1 = .ok (.lload_n 0, 1) := dk_30 (dk_at dksX4_told_0 1 rfl rfl)
theorem dX4_told_2 : decode cX4_told 2 = .ok (.invokestatic 290, 3) := dk_184 1 34 (dk_at dksX4_told_0 2 rfl rfl)
theorem dX4_told_5 : decode cX4_told 5 = .ok (.lstore 5, 2) := dk_55 5 (dk_at dksX4_told_0 5 rfl rfl)
theorem dX4_told_7 : decode cX4_told 7 = .ok (.iload 4, 2) := dk_21 4 (dk_at dksX4_told_0 7 rfl rfl)
theorem dX4_told_9 : decode cX4_told 9 = .ok (.ifCond .ne 10, 3) := dk_154 0 10 (dk_at dksX4_told_0 9 rfl rfl)
theorem dX4_told_12 : decode cX4_told 12 = .ok (.lload_n 0, 1) := dk_30 (dk_at dksX4_told_0 12 rfl rfl)
theorem dX4_told_13 : decode cX4_told 13 = .ok (.lload 5, 2) := dk_22 5 (dk_at dksX4_told_0 13 rfl rfl)
theorem dX4_told_15 : decode cX4_told 15 = .ok (.ldiv, 1) := dk_109 (dk_at dksX4_told_0 15 rfl rfl)
theorem dX4_told_16 : decode cX4_told 16 = .ok (.goto 7, 3) := dk_167 0 7 (dk_at dksX4_told_0 16 rfl rfl)
theorem dX4_told_19 : decode cX4_told 19 = .ok (.lload_n 2, 1) := dk_32 (dk_at dksX4_told_0 19 rfl rfl)
theorem dX4_told_20 : decode cX4_told 20 = .ok (.lload 5, 2) := dk_22 5 (dk_at dksX4_told_0 20 rfl rfl)
theorem dX4_told_22 : decode cX4_told 22 = .ok (.ldiv, 1) := dk_109 (dk_at dksX4_told_0 22 rfl rfl)
theorem dX4_told_23 : decode cX4_told 23 = .ok (.lreturn, 1) := dk_173 (dk_at dksX4_told_0 23 rfl rfl)
abbrev cX4_common : ByteArray := prog_13_method_81_code
def yX4_common : MethodName := ⟨RX4, "common", "(JJ)J"⟩
def dkwX4_common_1 : List UInt8 := [22, 8, 55, 6, 167, 255, 234, 22, 4, 173]
abbrev dktX4_common_1 : List UInt8 := dkwX4_common_1 ++ []
def dkwX4_common_0 : List UInt8 := [30, 55, 4, 32, 55, 6, 22, 6, 9, 148, 153, 0, 21, 22, 4, 22, 6, 113, 55, 8, 22, 6, 55, 4]
abbrev dktX4_common_0 : List UInt8 := dkwX4_common_0 ++ dktX4_common_1
theorem dksX4_common_0 : cX4_common.data.toList.drop 0 = dktX4_common_0 := by decide +kernel
theorem dksX4_common_1 : cX4_common.data.toList.drop 24 = dktX4_common_1 := dk_seg dksX4_common_0 24 rfl rfl
theorem dX4_common_0 : decode cX4_common 0 = .ok (.lload_n 0, 1) := dk_30 (dk_at dksX4_common_0 0 rfl rfl)
theorem dX4_common_1 : decode cX4_common 1 = .ok (.lstore 4, 2) := dk_55 4 (dk_at dksX4_common_0 1 rfl rfl)
theorem dX4_common_3 : decode cX4_common 3 = .ok (.lload_n 2, 1) := dk_32 (dk_at dksX4_common_0 3 rfl rfl)
theorem dX4_common_4 : decode cX4_common 4 = .ok (.lstore 6, 2) := dk_55 6 (dk_at dksX4_common_0 4 rfl rfl)
theorem dX4_common_6 : decode cX4_common 6 = .ok (.lload 6, 2) := dk_22 6 (dk_at dksX4_common_0 6 rfl rfl)
theorem dX4_common_8 : decode cX4_common 8 = .ok (.lconst 0, 1) := dk_9 (dk_at dksX4_common_0 8 rfl rfl)
theorem dX4_common_9 : decode cX4_common 9 = .ok (.lcmp, 1) := dk_148 (dk_at dksX4_common_0 9 rfl rfl)
theorem dX4_common_10 : decode cX4_common 10 = .ok (.ifCond .eq 21, 3) := dk_153 0 21 (dk_at dksX4_common_0 10 rfl rfl)
theorem dX4_common_13 : decode cX4_common 13 = .ok (.lload 4, 2) := dk_22 4 (dk_at dksX4_common_0 13 rfl rfl)
theorem dX4_common_15 : decode cX4_common 15 = .ok (.lload 6, 2) := dk_22 6 (dk_at dksX4_common_0 15 rfl rfl)
theorem dX4_common_17 : decode cX4_common 17 = .ok (.lrem, 1) := dk_113 (dk_at dksX4_common_0 17 rfl rfl)
theorem dX4_common_18 : decode cX4_common 18 = .ok (.lstore 8, 2) := dk_55 8 (dk_at dksX4_common_0 18 rfl rfl)
theorem dX4_common_20 : decode cX4_common 20 = .ok (.lload 6, 2) := dk_22 6 (dk_at dksX4_common_0 20 rfl rfl)
theorem dX4_common_22 : decode cX4_common 22 = .ok (.lstore 4, 2) := dk_55 4 (dk_at dksX4_common_0 22 rfl rfl)
theorem dX4_common_24 : decode cX4_common 24 = .ok (.lload 8, 2) := dk_22 8 (dk_at dksX4_common_1 0 rfl rfl)
theorem dX4_common_26 : decode cX4_common 26 = .ok (.lstore 6, 2) := dk_55 6 (dk_at dksX4_common_1 2 rfl rfl)
theorem dX4_common_28 : decode cX4_common 28 = .ok (.goto (-22), 3) := dk_167 255 234 (dk_at dksX4_common_1 4 rfl rfl)
theorem dX4_common_31 : decode cX4_common 31 = .ok (.lload 4, 2) := dk_22 4 (dk_at dksX4_common_1 7 rfl rfl)
theorem dX4_common_33 : decode cX4_common 33 = .ok (.lreturn, 1) := dk_173 (dk_at dksX4_common_1 9 rfl rfl)
abbrev cX4_mean : ByteArray := prog_13_method_85_code
def yX4_mean : MethodName := ⟨RX4, "mean", "(IIII)J"⟩
def dkwX4_mean_2 : List UInt8 := [29, 182, 1, 54, 42, 180, 1, 42, 42, 180, 1, 45, 21, 4, 184, 1, 57, 173]
abbrev dktX4_mean_2 : List UInt8 := dkwX4_mean_2 ++ []
def dkwX4_mean_1 : List UInt8 := [20, 1, 50, 184, 0, 80, 153, 0, 11, 21, 4, 184, 0, 235, 154, 0, 7, 20, 1, 52, 173, 42, 27, 28]
abbrev dktX4_mean_1 : List UInt8 := dkwX4_mean_1 ++ dktX4_mean_2
def dkwX4_mean_0 : List UInt8 := [27, 133, 9, 20, 1, 48, 184, 0, 80, 153, 0, 31, 42, 28, 182, 0, 223, 153, 0, 23, 29, 133, 9]
abbrev dktX4_mean_0 : List UInt8 := dkwX4_mean_0 ++ dktX4_mean_1
theorem dksX4_mean_0 : cX4_mean.data.toList.drop 0 = dktX4_mean_0 := by decide +kernel
theorem dksX4_mean_1 : cX4_mean.data.toList.drop 23 = dktX4_mean_1 := dk_seg dksX4_mean_0 23 rfl rfl
theorem dksX4_mean_2 : cX4_mean.data.toList.drop 47 = dktX4_mean_2 := dk_seg dksX4_mean_1 24 rfl rfl
theorem dX4_mean_0 : decode cX4_mean 0 = .ok (.iload_n 1, 1) := dk_27 (dk_at dksX4_mean_0 0 rfl rfl)
theorem dX4_mean_1 : decode cX4_mean 1 = .ok (.i2l, 1) := dk_133 (dk_at dksX4_mean_0 1 rfl rfl)
theorem dX4_mean_2 : decode cX4_mean 2 = .ok (.lconst 0, 1) := dk_9 (dk_at dksX4_mean_0 2 rfl rfl)
theorem dX4_mean_3 : decode cX4_mean 3 = .ok (.ldc2_w 304, 3) := dk_20 1 48 (dk_at dksX4_mean_0 3 rfl rfl)
theorem dX4_mean_6 : decode cX4_mean 6 = .ok (.invokestatic 80, 3) := dk_184 0 80 (dk_at dksX4_mean_0 6 rfl rfl)
theorem dX4_mean_9 : decode cX4_mean 9 = .ok (.ifCond .eq 31, 3) := dk_153 0 31 (dk_at dksX4_mean_0 9 rfl rfl)
theorem dX4_mean_12 : decode cX4_mean 12 = .ok (.aload_n 0, 1) := dk_42 (dk_at dksX4_mean_0 12 rfl rfl)
theorem dX4_mean_13 : decode cX4_mean 13 = .ok (.iload_n 2, 1) := dk_28 (dk_at dksX4_mean_0 13 rfl rfl)
theorem dX4_mean_14 : decode cX4_mean 14 = .ok (.invokevirtual 223, 3) := dk_182 0 223 (dk_at dksX4_mean_0 14 rfl rfl)
theorem dX4_mean_17 : decode cX4_mean 17 = .ok (.ifCond .eq 23, 3) := dk_153 0 23 (dk_at dksX4_mean_0 17 rfl rfl)
theorem dX4_mean_20 : decode cX4_mean 20 = .ok (.iload_n 3, 1) := dk_29 (dk_at dksX4_mean_0 20 rfl rfl)
theorem dX4_mean_21 : decode cX4_mean 21 = .ok (.i2l, 1) := dk_133 (dk_at dksX4_mean_0 21 rfl rfl)
theorem dX4_mean_22 : decode cX4_mean 22 = .ok (.lconst 0, 1) := dk_9 (dk_at dksX4_mean_0 22 rfl rfl)
theorem dX4_mean_23 : decode cX4_mean 23 = .ok (.ldc2_w 306, 3) := dk_20 1 50 (dk_at dksX4_mean_1 0 rfl rfl)
theorem dX4_mean_26 : decode cX4_mean 26 = .ok (.invokestatic 80, 3) := dk_184 0 80 (dk_at dksX4_mean_1 3 rfl rfl)
theorem dX4_mean_29 : decode cX4_mean 29 = .ok (.ifCond .eq 11, 3) := dk_153 0 11 (dk_at dksX4_mean_1 6 rfl rfl)
theorem dX4_mean_32 : decode cX4_mean 32 = .ok (.iload 4, 2) := dk_21 4 (dk_at dksX4_mean_1 9 rfl rfl)
theorem dX4_mean_34 : decode cX4_mean 34 = .ok (.invokestatic 235, 3) := dk_184 0 235 (dk_at dksX4_mean_1 11 rfl rfl)
theorem dX4_mean_37 : decode cX4_mean 37 = .ok (.ifCond .ne 7, 3) := dk_154 0 7 (dk_at dksX4_mean_1 14 rfl rfl)
theorem dX4_mean_40 : decode cX4_mean 40 = .ok (.ldc2_w 308, 3) := dk_20 1 52 (dk_at dksX4_mean_1 17 rfl rfl)
theorem dX4_mean_43 : decode cX4_mean 43 = .ok (.lreturn, 1) := dk_173 (dk_at dksX4_mean_1 20 rfl rfl)
theorem dX4_mean_44 : decode cX4_mean 44 = .ok (.aload_n 0, 1) := dk_42 (dk_at dksX4_mean_1 21 rfl rfl)
theorem dX4_mean_45 : decode cX4_mean 45 = .ok (.iload_n 1, 1) := dk_27 (dk_at dksX4_mean_1 22 rfl rfl)
theorem dX4_mean_46 : decode cX4_mean 46 = .ok (.iload_n 2, 1) := dk_28 (dk_at dksX4_mean_1 23 rfl rfl)
theorem dX4_mean_47 : decode cX4_mean 47 = .ok (.iload_n 3, 1) := dk_29 (dk_at dksX4_mean_2 0 rfl rfl)
theorem dX4_mean_48 : decode cX4_mean 48 = .ok (.invokevirtual 310, 3) := dk_182 1 54 (dk_at dksX4_mean_2 1 rfl rfl)
theorem dX4_mean_51 : decode cX4_mean 51 = .ok (.aload_n 0, 1) := dk_42 (dk_at dksX4_mean_2 4 rfl rfl)
theorem dX4_mean_52 : decode cX4_mean 52 = .ok (.getfield 298, 3) := dk_180 1 42 (dk_at dksX4_mean_2 5 rfl rfl)
theorem dX4_mean_55 : decode cX4_mean 55 = .ok (.aload_n 0, 1) := dk_42 (dk_at dksX4_mean_2 8 rfl rfl)
theorem dX4_mean_56 : decode cX4_mean 56 = .ok (.getfield 301, 3) := dk_180 1 45 (dk_at dksX4_mean_2 9 rfl rfl)
theorem dX4_mean_59 : decode cX4_mean 59 = .ok (.iload 4, 2) := dk_21 4 (dk_at dksX4_mean_2 12 rfl rfl)
theorem dX4_mean_61 : decode cX4_mean 61 = .ok (.invokestatic 313, 3) := dk_184 1 57 (dk_at dksX4_mean_2 14 rfl rfl)
theorem dX4_mean_64 : decode cX4_mean 64 = .ok (.lreturn, 1) := dk_173 (dk_at dksX4_mean_2 17 rfl rfl)
abbrev cX4_see : ByteArray := prog_13_method_86_code
def yX4_see : MethodName := ⟨RX4, "see", "(III)I"⟩
def dkwX4_see_4 : List UInt8 := [180, 0, 7, 16, 56, 92, 46, 4, 96, 79, 42, 180, 0, 7, 16, 56, 46, 172]
abbrev dktX4_see_4 : List UInt8 := dkwX4_see_4 ++ []
def dkwX4_see_3 : List UInt8 := [79, 42, 180, 0, 7, 21, 4, 4, 96, 28, 79, 42, 180, 0, 7, 21, 4, 5, 96, 29, 79, 42]
abbrev dktX4_see_3 : List UInt8 := dkwX4_see_3 ++ dktX4_see_4
def dkwX4_see_2 : List UInt8 := [16, 253, 172, 16, 57, 6, 42, 180, 0, 7, 16, 56, 46, 104, 96, 54, 4, 42, 180, 0, 7, 21, 4, 27]
abbrev dktX4_see_2 : List UInt8 := dkwX4_see_2 ++ dktX4_see_3
def dkwX4_see_1 : List UInt8 := [20, 1, 61, 184, 0, 80, 154, 0, 5, 2, 172, 42, 180, 0, 7, 16, 56, 46, 16, 6, 160, 0, 6]
abbrev dktX4_see_1 : List UInt8 := dkwX4_see_1 ++ dktX4_see_2
def dkwX4_see_0 : List UInt8 := [42, 27, 182, 0, 218, 153, 0, 27, 28, 133, 9, 20, 0, 242, 184, 0, 80, 153, 0, 15, 29, 133, 9]
abbrev dktX4_see_0 : List UInt8 := dkwX4_see_0 ++ dktX4_see_1
theorem dksX4_see_0 : cX4_see.data.toList.drop 0 = dktX4_see_0 := by decide +kernel
theorem dksX4_see_1 : cX4_see.data.toList.drop 23 = dktX4_see_1 := dk_seg dksX4_see_0 23 rfl rfl
theorem dksX4_see_2 : cX4_see.data.toList.drop 46 = dktX4_see_2 := dk_seg dksX4_see_1 23 rfl rfl
theorem dksX4_see_3 : cX4_see.data.toList.drop 70 = dktX4_see_3 := dk_seg dksX4_see_2 24 rfl rfl
theorem dksX4_see_4 : cX4_see.data.toList.drop 92 = dktX4_see_4 := dk_seg dksX4_see_3 22 rfl rfl
theorem dX4_see_0 : decode cX4_see 0 = .ok (.aload_n 0, 1) := dk_42 (dk_at dksX4_see_0 0 rfl rfl)
theorem dX4_see_1 : decode cX4_see 1 = .ok (.iload_n 1, 1) := dk_27 (dk_at dksX4_see_0 1 rfl rfl)
theorem dX4_see_2 : decode cX4_see 2 = .ok (.invokevirtual 218, 3) := dk_182 0 218 (dk_at dksX4_see_0 2 rfl rfl)
theorem dX4_see_5 : decode cX4_see 5 = .ok (.ifCond .eq 27, 3) := dk_153 0 27 (dk_at dksX4_see_0 5 rfl rfl)
theorem dX4_see_8 : decode cX4_see 8 = .ok (.iload_n 2, 1) := dk_28 (dk_at dksX4_see_0 8 rfl rfl)
theorem dX4_see_9 : decode cX4_see 9 = .ok (.i2l, 1) := dk_133 (dk_at dksX4_see_0 9 rfl rfl)
theorem dX4_see_10 : decode cX4_see 10 = .ok (.lconst 0, 1) := dk_9 (dk_at dksX4_see_0 10 rfl rfl)
theorem dX4_see_11 : decode cX4_see 11 = .ok (.ldc2_w 242, 3) := dk_20 0 242 (dk_at dksX4_see_0 11 rfl rfl)
theorem dX4_see_14 : decode cX4_see 14 = .ok (.invokestatic 80, 3) := dk_184 0 80 (dk_at dksX4_see_0 14 rfl rfl)
theorem dX4_see_17 : decode cX4_see 17 = .ok (.ifCond .eq 15, 3) := dk_153 0 15 (dk_at dksX4_see_0 17 rfl rfl)
theorem dX4_see_20 : decode cX4_see 20 = .ok (.iload_n 3, 1) := dk_29 (dk_at dksX4_see_0 20 rfl rfl)
theorem dX4_see_21 : decode cX4_see 21 = .ok (.i2l, 1) := dk_133 (dk_at dksX4_see_0 21 rfl rfl)
theorem dX4_see_22 : decode cX4_see 22 = .ok (.lconst 0, 1) := dk_9 (dk_at dksX4_see_0 22 rfl rfl)
theorem dX4_see_23 : decode cX4_see 23 = .ok (.ldc2_w 317, 3) := dk_20 1 61 (dk_at dksX4_see_1 0 rfl rfl)
theorem dX4_see_26 : decode cX4_see 26 = .ok (.invokestatic 80, 3) := dk_184 0 80 (dk_at dksX4_see_1 3 rfl rfl)
theorem dX4_see_29 : decode cX4_see 29 = .ok (.ifCond .ne 5, 3) := dk_154 0 5 (dk_at dksX4_see_1 6 rfl rfl)
theorem dX4_see_32 : decode cX4_see 32 = .ok (.iconst (-1), 1) := dk_2 (dk_at dksX4_see_1 9 rfl rfl)
theorem dX4_see_33 : decode cX4_see 33 = .ok (.ireturn, 1) := dk_172 (dk_at dksX4_see_1 10 rfl rfl)
theorem dX4_see_34 : decode cX4_see 34 = .ok (.aload_n 0, 1) := dk_42 (dk_at dksX4_see_1 11 rfl rfl)
theorem dX4_see_35 : decode cX4_see 35 = .ok (.getfield 7, 3) := dk_180 0 7 (dk_at dksX4_see_1 12 rfl rfl)
theorem dX4_see_38 : decode cX4_see 38 = .ok (.bipush 56, 2) := dk_16 56 (dk_at dksX4_see_1 15 rfl rfl)
theorem dX4_see_40 : decode cX4_see 40 = .ok (.iaload, 1) := dk_46 (dk_at dksX4_see_1 17 rfl rfl)
theorem dX4_see_41 : decode cX4_see 41 = .ok (.bipush 6, 2) := dk_16 6 (dk_at dksX4_see_1 18 rfl rfl)
theorem dX4_see_43 : decode cX4_see 43 = .ok (.if_icmp .ne 6, 3) := dk_160 0 6 (dk_at dksX4_see_1 20 rfl rfl)
theorem dX4_see_46 : decode cX4_see 46 = .ok (.bipush (-3), 2) := dk_16 253 (dk_at dksX4_see_2 0 rfl rfl)
theorem dX4_see_48 : decode cX4_see 48 = .ok (.ireturn, 1) := dk_172 (dk_at dksX4_see_2 2 rfl rfl)
theorem dX4_see_49 : decode cX4_see 49 = .ok (.bipush 57, 2) := dk_16 57 (dk_at dksX4_see_2 3 rfl rfl)
theorem dX4_see_51 : decode cX4_see 51 = .ok (.iconst 3, 1) := dk_6 (dk_at dksX4_see_2 5 rfl rfl)
theorem dX4_see_52 : decode cX4_see 52 = .ok (.aload_n 0, 1) := dk_42 (dk_at dksX4_see_2 6 rfl rfl)
theorem dX4_see_53 : decode cX4_see 53 = .ok (.getfield 7, 3) := dk_180 0 7 (dk_at dksX4_see_2 7 rfl rfl)
theorem dX4_see_56 : decode cX4_see 56 = .ok (.bipush 56, 2) := dk_16 56 (dk_at dksX4_see_2 10 rfl rfl)
theorem dX4_see_58 : decode cX4_see 58 = .ok (.iaload, 1) := dk_46 (dk_at dksX4_see_2 12 rfl rfl)
theorem dX4_see_59 : decode cX4_see 59 = .ok (.imul, 1) := dk_104 (dk_at dksX4_see_2 13 rfl rfl)
theorem dX4_see_60 : decode cX4_see 60 = .ok (.iadd, 1) := dk_96 (dk_at dksX4_see_2 14 rfl rfl)
theorem dX4_see_61 : decode cX4_see 61 = .ok (.istore 4, 2) := dk_54 4 (dk_at dksX4_see_2 15 rfl rfl)
theorem dX4_see_63 : decode cX4_see 63 = .ok (.aload_n 0, 1) := dk_42 (dk_at dksX4_see_2 17 rfl rfl)
theorem dX4_see_64 : decode cX4_see 64 = .ok (.getfield 7, 3) := dk_180 0 7 (dk_at dksX4_see_2 18 rfl rfl)
theorem dX4_see_67 : decode cX4_see 67 = .ok (.iload 4, 2) := dk_21 4 (dk_at dksX4_see_2 21 rfl rfl)
theorem dX4_see_69 : decode cX4_see 69 = .ok (.iload_n 1, 1) := dk_27 (dk_at dksX4_see_2 23 rfl rfl)
theorem dX4_see_70 : decode cX4_see 70 = .ok (.iastore, 1) := dk_79 (dk_at dksX4_see_3 0 rfl rfl)
theorem dX4_see_71 : decode cX4_see 71 = .ok (.aload_n 0, 1) := dk_42 (dk_at dksX4_see_3 1 rfl rfl)
theorem dX4_see_72 : decode cX4_see 72 = .ok (.getfield 7, 3) := dk_180 0 7 (dk_at dksX4_see_3 2 rfl rfl)
theorem dX4_see_75 : decode cX4_see 75 = .ok (.iload 4, 2) := dk_21 4 (dk_at dksX4_see_3 5 rfl rfl)
theorem dX4_see_77 : decode cX4_see 77 = .ok (.iconst 1, 1) := dk_4 (dk_at dksX4_see_3 7 rfl rfl)
theorem dX4_see_78 : decode cX4_see 78 = .ok (.iadd, 1) := dk_96 (dk_at dksX4_see_3 8 rfl rfl)
theorem dX4_see_79 : decode cX4_see 79 = .ok (.iload_n 2, 1) := dk_28 (dk_at dksX4_see_3 9 rfl rfl)
theorem dX4_see_80 : decode cX4_see 80 = .ok (.iastore, 1) := dk_79 (dk_at dksX4_see_3 10 rfl rfl)
theorem dX4_see_81 : decode cX4_see 81 = .ok (.aload_n 0, 1) := dk_42 (dk_at dksX4_see_3 11 rfl rfl)
theorem dX4_see_82 : decode cX4_see 82 = .ok (.getfield 7, 3) := dk_180 0 7 (dk_at dksX4_see_3 12 rfl rfl)
theorem dX4_see_85 : decode cX4_see 85 = .ok (.iload 4, 2) := dk_21 4 (dk_at dksX4_see_3 15 rfl rfl)
theorem dX4_see_87 : decode cX4_see 87 = .ok (.iconst 2, 1) := dk_5 (dk_at dksX4_see_3 17 rfl rfl)
theorem dX4_see_88 : decode cX4_see 88 = .ok (.iadd, 1) := dk_96 (dk_at dksX4_see_3 18 rfl rfl)
theorem dX4_see_89 : decode cX4_see 89 = .ok (.iload_n 3, 1) := dk_29 (dk_at dksX4_see_3 19 rfl rfl)
theorem dX4_see_90 : decode cX4_see 90 = .ok (.iastore, 1) := dk_79 (dk_at dksX4_see_3 20 rfl rfl)
theorem dX4_see_91 : decode cX4_see 91 = .ok (.aload_n 0, 1) := dk_42 (dk_at dksX4_see_3 21 rfl rfl)
theorem dX4_see_92 : decode cX4_see 92 = .ok (.getfield 7, 3) := dk_180 0 7 (dk_at dksX4_see_4 0 rfl rfl)
theorem dX4_see_95 : decode cX4_see 95 = .ok (.bipush 56, 2) := dk_16 56 (dk_at dksX4_see_4 3 rfl rfl)
theorem dX4_see_97 : decode cX4_see 97 = .ok (.dup2, 1) := dk_92 (dk_at dksX4_see_4 5 rfl rfl)
theorem dX4_see_98 : decode cX4_see 98 = .ok (.iaload, 1) := dk_46 (dk_at dksX4_see_4 6 rfl rfl)
theorem dX4_see_99 : decode cX4_see 99 = .ok (.iconst 1, 1) := dk_4 (dk_at dksX4_see_4 7 rfl rfl)
theorem dX4_see_100 : decode cX4_see 100 = .ok (.iadd, 1) := dk_96 (dk_at dksX4_see_4 8 rfl rfl)
theorem dX4_see_101 : decode cX4_see 101 = .ok (.iastore, 1) := dk_79 (dk_at dksX4_see_4 9 rfl rfl)
theorem dX4_see_102 : decode cX4_see 102 = .ok (.aload_n 0, 1) := dk_42 (dk_at dksX4_see_4 10 rfl rfl)
theorem dX4_see_103 : decode cX4_see 103 = .ok (.getfield 7, 3) := dk_180 0 7 (dk_at dksX4_see_4 11 rfl rfl)
theorem dX4_see_106 : decode cX4_see 106 = .ok (.bipush 56, 2) := dk_16 56 (dk_at dksX4_see_4 14 rfl rfl)
theorem dX4_see_108 : decode cX4_see 108 = .ok (.iaload, 1) := dk_46 (dk_at dksX4_see_4 16 rfl rfl)
theorem dX4_see_109 : decode cX4_see 109 = .ok (.ireturn, 1) := dk_172 (dk_at dksX4_see_4 17 rfl rfl)
abbrev cX4_forget : ByteArray := prog_13_method_87_code
def yX4_forget : MethodName := ⟨RX4, "forget", "(I)I"⟩
def dkwX4_forget_1 : List UInt8 := [167, 0, 4, 2, 172]
abbrev dktX4_forget_1 : List UInt8 := dkwX4_forget_1 ++ []
def dkwX4_forget_0 : List UInt8 := [27, 133, 9, 42, 180, 0, 7, 16, 56, 46, 133, 184, 0, 80, 153, 0, 13, 42, 16, 56, 27, 182, 0, 232]
abbrev dktX4_forget_0 : List UInt8 := dkwX4_forget_0 ++ dktX4_forget_1
theorem dksX4_forget_0 : cX4_forget.data.toList.drop 0 = dktX4_forget_0 := by decide +kernel
theorem dksX4_forget_1 : cX4_forget.data.toList.drop 24 = dktX4_forget_1 := dk_seg dksX4_forget_0 24 rfl rfl
theorem dX4_forget_0 : decode cX4_forget 0 = .ok (.iload_n 1, 1) := dk_27 (dk_at dksX4_forget_0 0 rfl rfl)
theorem dX4_forget_1 : decode cX4_forget 1 = .ok (.i2l, 1) := dk_133 (dk_at dksX4_forget_0 1 rfl rfl)
theorem dX4_forget_2 : decode cX4_forget 2 = .ok (.lconst 0, 1) := dk_9 (dk_at dksX4_forget_0 2 rfl rfl)
theorem dX4_forget_3 : decode cX4_forget 3 = .ok (.aload_n 0, 1) := dk_42 (dk_at dksX4_forget_0 3 rfl rfl)
theorem dX4_forget_4 : decode cX4_forget 4 = .ok (.getfield 7, 3) := dk_180 0 7 (dk_at dksX4_forget_0 4 rfl rfl)
theorem dX4_forget_7 : decode cX4_forget 7 = .ok (.bipush 56, 2) := dk_16 56 (dk_at dksX4_forget_0 7 rfl rfl)
theorem dX4_forget_9 : decode cX4_forget 9 = .ok (.iaload, 1) := dk_46 (dk_at dksX4_forget_0 9 rfl rfl)
theorem dX4_forget_10 : decode cX4_forget 10 = .ok (.i2l, 1) := dk_133 (dk_at dksX4_forget_0 10 rfl rfl)
theorem dX4_forget_11 : decode cX4_forget 11 = .ok (.invokestatic 80, 3) := dk_184 0 80 (dk_at dksX4_forget_0 11 rfl rfl)
theorem dX4_forget_14 : decode cX4_forget 14 = .ok (.ifCond .eq 13, 3) := dk_153 0 13 (dk_at dksX4_forget_0 14 rfl rfl)
theorem dX4_forget_17 : decode cX4_forget 17 = .ok (.aload_n 0, 1) := dk_42 (dk_at dksX4_forget_0 17 rfl rfl)
theorem dX4_forget_18 : decode cX4_forget 18 = .ok (.bipush 56, 2) := dk_16 56 (dk_at dksX4_forget_0 18 rfl rfl)
theorem dX4_forget_20 : decode cX4_forget 20 = .ok (.iload_n 1, 1) := dk_27 (dk_at dksX4_forget_0 20 rfl rfl)
theorem dX4_forget_21 : decode cX4_forget 21 = .ok (.invokevirtual 232, 3) := dk_182 0 232 (dk_at dksX4_forget_0 21 rfl rfl)
theorem dX4_forget_24 : decode cX4_forget 24 = .ok (.goto 4, 3) := dk_167 0 4 (dk_at dksX4_forget_1 0 rfl rfl)
theorem dX4_forget_27 : decode cX4_forget 27 = .ok (.iconst (-1), 1) := dk_2 (dk_at dksX4_forget_1 3 rfl rfl)
theorem dX4_forget_28 : decode cX4_forget 28 = .ok (.ireturn, 1) := dk_172 (dk_at dksX4_forget_1 4 rfl rfl)
abbrev cX4_fits : ByteArray := prog_13_method_89_code
def yX4_fits : MethodName := ⟨RX4, "fits", "(I)I"⟩
def dkwX4_fits_4 : List UInt8 := [167, 0, 4, 29, 172]
abbrev dktX4_fits_4 : List UInt8 := dkwX4_fits_4 ++ []
def dkwX4_fits_3 : List UInt8 := [160, 0, 7, 3, 167, 0, 7, 4, 21, 5, 120, 128, 62, 132, 4, 1, 167, 255, 194, 27, 154, 0, 7, 28]
abbrev dktX4_fits_3 : List UInt8 := dkwX4_fits_3 ++ dktX4_fits_4
def dkwX4_fits_2 : List UInt8 := [154, 0, 8, 16, 252, 167, 0, 12, 42, 27, 16, 10, 100, 5, 182, 0, 165, 54, 5, 29, 21, 5, 16, 252]
abbrev dktX4_fits_2 : List UInt8 := dkwX4_fits_2 ++ dktX4_fits_3
def dkwX4_fits_1 : List UInt8 := [21, 4, 42, 182, 1, 27, 162, 0, 59, 42, 21, 4, 182, 1, 63, 153, 0, 44, 132, 2, 1, 27]
abbrev dktX4_fits_1 : List UInt8 := dkwX4_fits_1 ++ dktX4_fits_2
def dkwX4_fits_0 : List UInt8 := [27, 153, 0, 16, 42, 27, 16, 10, 100, 182, 0, 223, 154, 0, 5, 2, 172, 3, 61, 3, 62, 3, 54, 4]
abbrev dktX4_fits_0 : List UInt8 := dkwX4_fits_0 ++ dktX4_fits_1
theorem dksX4_fits_0 : cX4_fits.data.toList.drop 0 = dktX4_fits_0 := by decide +kernel
theorem dksX4_fits_1 : cX4_fits.data.toList.drop 24 = dktX4_fits_1 := dk_seg dksX4_fits_0 24 rfl rfl
theorem dksX4_fits_2 : cX4_fits.data.toList.drop 46 = dktX4_fits_2 := dk_seg dksX4_fits_1 22 rfl rfl
theorem dksX4_fits_3 : cX4_fits.data.toList.drop 70 = dktX4_fits_3 := dk_seg dksX4_fits_2 24 rfl rfl
theorem dksX4_fits_4 : cX4_fits.data.toList.drop 94 = dktX4_fits_4 := dk_seg dksX4_fits_3 24 rfl rfl
theorem dX4_fits_0 : decode cX4_fits 0 = .ok (.iload_n 1, 1) := dk_27 (dk_at dksX4_fits_0 0 rfl rfl)
theorem dX4_fits_1 : decode cX4_fits 1 = .ok (.ifCond .eq 16, 3) := dk_153 0 16 (dk_at dksX4_fits_0 1 rfl rfl)
theorem dX4_fits_4 : decode cX4_fits 4 = .ok (.aload_n 0, 1) := dk_42 (dk_at dksX4_fits_0 4 rfl rfl)
theorem dX4_fits_5 : decode cX4_fits 5 = .ok (.iload_n 1, 1) := dk_27 (dk_at dksX4_fits_0 5 rfl rfl)
theorem dX4_fits_6 : decode cX4_fits 6 = .ok (.bipush 10, 2) := dk_16 10 (dk_at dksX4_fits_0 6 rfl rfl)
theorem dX4_fits_8 : decode cX4_fits 8 = .ok (.isub, 1) := dk_100 (dk_at dksX4_fits_0 8 rfl rfl)
theorem dX4_fits_9 : decode cX4_fits 9 = .ok (.invokevirtual 223, 3) := dk_182 0 223 (dk_at dksX4_fits_0 9 rfl rfl)
theorem dX4_fits_12 : decode cX4_fits 12 = .ok (.ifCond .ne 5, 3) := dk_154 0 5 (dk_at dksX4_fits_0 12 rfl rfl)
theorem dX4_fits_15 : decode cX4_fits 15 = .ok (.iconst (-1), 1) := dk_2 (dk_at dksX4_fits_0 15 rfl rfl)
theorem dX4_fits_16 : decode cX4_fits 16 = .ok (.ireturn, 1) := dk_172 (dk_at dksX4_fits_0 16 rfl rfl)
theorem dX4_fits_17 : decode cX4_fits 17 = .ok (.iconst 0, 1) := dk_3 (dk_at dksX4_fits_0 17 rfl rfl)
theorem dX4_fits_18 : decode cX4_fits 18 = .ok (.istore_n 2, 1) := dk_61 (dk_at dksX4_fits_0 18 rfl rfl)
theorem dX4_fits_19 : decode cX4_fits 19 = .ok (.iconst 0, 1) := dk_3 (dk_at dksX4_fits_0 19 rfl rfl)
theorem dX4_fits_20 : decode cX4_fits 20 = .ok (.istore_n 3, 1) := dk_62 (dk_at dksX4_fits_0 20 rfl rfl)
theorem dX4_fits_21 : decode cX4_fits 21 = .ok (.iconst 0, 1) := dk_3 (dk_at dksX4_fits_0 21 rfl rfl)
theorem dX4_fits_22 : decode cX4_fits 22 = .ok (.istore 4, 2) := dk_54 4 (dk_at dksX4_fits_0 22 rfl rfl)
theorem dX4_fits_24 : decode cX4_fits 24 = .ok (.iload 4, 2) := dk_21 4 (dk_at dksX4_fits_1 0 rfl rfl)
theorem dX4_fits_26 : decode cX4_fits 26 = .ok (.aload_n 0, 1) := dk_42 (dk_at dksX4_fits_1 2 rfl rfl)
theorem dX4_fits_27 : decode cX4_fits 27 = .ok (.invokevirtual 283, 3) := dk_182 1 27 (dk_at dksX4_fits_1 3 rfl rfl)
theorem dX4_fits_30 : decode cX4_fits 30 = .ok (.if_icmp .ge 59, 3) := dk_162 0 59 (dk_at dksX4_fits_1 6 rfl rfl)
theorem dX4_fits_33 : decode cX4_fits 33 = .ok (.aload_n 0, 1) := dk_42 (dk_at dksX4_fits_1 9 rfl rfl)
theorem dX4_fits_34 : decode cX4_fits 34 = .ok (.iload 4, 2) := dk_21 4 (dk_at dksX4_fits_1 10 rfl rfl)
theorem dX4_fits_36 : decode cX4_fits 36 = .ok (.invokevirtual 319, 3) := dk_182 1 63 (dk_at dksX4_fits_1 12 rfl rfl)
theorem dX4_fits_39 : decode cX4_fits 39 = .ok (.ifCond .eq 44, 3) := dk_153 0 44 (dk_at dksX4_fits_1 15 rfl rfl)
theorem dX4_fits_42 : decode cX4_fits 42 = .ok (.iinc 2 1, 3) := dk_132 2 1 (dk_at dksX4_fits_1 18 rfl rfl)
theorem dX4_fits_45 : decode cX4_fits 45 = .ok (.iload_n 1, 1) := dk_27 (dk_at dksX4_fits_1 21 rfl rfl)
theorem dX4_fits_46 : decode cX4_fits 46 = .ok (.ifCond .ne 8, 3) := dk_154 0 8 (dk_at dksX4_fits_2 0 rfl rfl)
theorem dX4_fits_49 : decode cX4_fits 49 = .ok (.bipush (-4), 2) := dk_16 252 (dk_at dksX4_fits_2 3 rfl rfl)
theorem dX4_fits_51 : decode cX4_fits 51 = .ok (.goto 12, 3) := dk_167 0 12 (dk_at dksX4_fits_2 5 rfl rfl)
theorem dX4_fits_54 : decode cX4_fits 54 = .ok (.aload_n 0, 1) := dk_42 (dk_at dksX4_fits_2 8 rfl rfl)
theorem dX4_fits_55 : decode cX4_fits 55 = .ok (.iload_n 1, 1) := dk_27 (dk_at dksX4_fits_2 9 rfl rfl)
theorem dX4_fits_56 : decode cX4_fits 56 = .ok (.bipush 10, 2) := dk_16 10 (dk_at dksX4_fits_2 10 rfl rfl)
theorem dX4_fits_58 : decode cX4_fits 58 = .ok (.isub, 1) := dk_100 (dk_at dksX4_fits_2 12 rfl rfl)
theorem dX4_fits_59 : decode cX4_fits 59 = .ok (.iconst 2, 1) := dk_5 (dk_at dksX4_fits_2 13 rfl rfl)
theorem dX4_fits_60 : decode cX4_fits 60 = .ok (.invokevirtual 165, 3) := dk_182 0 165 (dk_at dksX4_fits_2 14 rfl rfl)
theorem dX4_fits_63 : decode cX4_fits 63 = .ok (.istore 5, 2) := dk_54 5 (dk_at dksX4_fits_2 17 rfl rfl)
theorem dX4_fits_65 : decode cX4_fits 65 = .ok (.iload_n 3, 1) := dk_29 (dk_at dksX4_fits_2 19 rfl rfl)
theorem dX4_fits_66 : decode cX4_fits 66 = .ok (.iload 5, 2) := dk_21 5 (dk_at dksX4_fits_2 20 rfl rfl)
theorem dX4_fits_68 : decode cX4_fits 68 = .ok (.bipush (-4), 2) := dk_16 252 (dk_at dksX4_fits_2 22 rfl rfl)
theorem dX4_fits_70 : decode cX4_fits 70 = .ok (.if_icmp .ne 7, 3) := dk_160 0 7 (dk_at dksX4_fits_3 0 rfl rfl)
theorem dX4_fits_73 : decode cX4_fits 73 = .ok (.iconst 0, 1) := dk_3 (dk_at dksX4_fits_3 3 rfl rfl)
theorem dX4_fits_74 : decode cX4_fits 74 = .ok (.goto 7, 3) := dk_167 0 7 (dk_at dksX4_fits_3 4 rfl rfl)
theorem dX4_fits_77 : decode cX4_fits 77 = .ok (.iconst 1, 1) := dk_4 (dk_at dksX4_fits_3 7 rfl rfl)
theorem dX4_fits_78 : decode cX4_fits 78 = .ok (.iload 5, 2) := dk_21 5 (dk_at dksX4_fits_3 8 rfl rfl)
theorem dX4_fits_80 : decode cX4_fits 80 = .ok (.ishl, 1) := dk_120 (dk_at dksX4_fits_3 10 rfl rfl)
theorem dX4_fits_81 : decode cX4_fits 81 = .ok (.ior, 1) := dk_128 (dk_at dksX4_fits_3 11 rfl rfl)
theorem dX4_fits_82 : decode cX4_fits 82 = .ok (.istore_n 3, 1) := dk_62 (dk_at dksX4_fits_3 12 rfl rfl)
theorem dX4_fits_83 : decode cX4_fits 83 = .ok (.iinc 4 1, 3) := dk_132 4 1 (dk_at dksX4_fits_3 13 rfl rfl)
theorem dX4_fits_86 : decode cX4_fits 86 = .ok (.goto (-62), 3) := dk_167 255 194 (dk_at dksX4_fits_3 16 rfl rfl)
theorem dX4_fits_89 : decode cX4_fits 89 = .ok (.iload_n 1, 1) := dk_27 (dk_at dksX4_fits_3 19 rfl rfl)
theorem dX4_fits_90 : decode cX4_fits 90 = .ok (.ifCond .ne 7, 3) := dk_154 0 7 (dk_at dksX4_fits_3 20 rfl rfl)
theorem dX4_fits_93 : decode cX4_fits 93 = .ok (.iload_n 2, 1) := dk_28 (dk_at dksX4_fits_3 23 rfl rfl)
theorem dX4_fits_94 : decode cX4_fits 94 = .ok (.goto 4, 3) := dk_167 0 4 (dk_at dksX4_fits_4 0 rfl rfl)
theorem dX4_fits_97 : decode cX4_fits 97 = .ok (.iload_n 3, 1) := dk_29 (dk_at dksX4_fits_4 3 rfl rfl)
theorem dX4_fits_98 : decode cX4_fits 98 = .ok (.ireturn, 1) := dk_172 (dk_at dksX4_fits_4 4 rfl rfl)
abbrev cX4_isSo : ByteArray := prog_13_method_88_code
def yX4_isSo : MethodName := ⟨RX4, "isSo", "(I)Z"⟩
def dkwX4_isSo_3 : List UInt8 := [61, 132, 3, 1, 167, 255, 189, 28, 172]
abbrev dktX4_isSo_3 : List UInt8 := dkwX4_isSo_3 ++ []
def dkwX4_isSo_2 : List UInt8 := [46, 182, 1, 4, 184, 0, 229, 42, 180, 0, 7, 21, 4, 5, 96, 46, 160, 0, 7, 4, 167, 0, 4, 3]
abbrev dktX4_isSo_2 : List UInt8 := dkwX4_isSo_2 ++ dktX4_isSo_3
def dkwX4_isSo_1 : List UInt8 := [16, 57, 6, 29, 104, 96, 54, 4, 42, 42, 180, 0, 7, 21, 4, 46, 42, 180, 0, 7, 21, 4, 4, 96]
abbrev dktX4_isSo_1 : List UInt8 := dkwX4_isSo_1 ++ dktX4_isSo_2
def dkwX4_isSo_0 : List UInt8 := [42, 27, 182, 1, 30, 61, 3, 62, 29, 42, 180, 0, 7, 16, 56, 46, 162, 0, 62, 28, 153, 0, 58]
abbrev dktX4_isSo_0 : List UInt8 := dkwX4_isSo_0 ++ dktX4_isSo_1
theorem dksX4_isSo_0 : cX4_isSo.data.toList.drop 0 = dktX4_isSo_0 := by decide +kernel
theorem dksX4_isSo_1 : cX4_isSo.data.toList.drop 23 = dktX4_isSo_1 := dk_seg dksX4_isSo_0 23 rfl rfl
theorem dksX4_isSo_2 : cX4_isSo.data.toList.drop 47 = dktX4_isSo_2 := dk_seg dksX4_isSo_1 24 rfl rfl
theorem dksX4_isSo_3 : cX4_isSo.data.toList.drop 71 = dktX4_isSo_3 := dk_seg dksX4_isSo_2 24 rfl rfl
theorem dX4_isSo_0 : decode cX4_isSo 0 = .ok (.aload_n 0, 1) := dk_42 (dk_at dksX4_isSo_0 0 rfl rfl)
theorem dX4_isSo_1 : decode cX4_isSo 1 = .ok (.iload_n 1, 1) := dk_27 (dk_at dksX4_isSo_0 1 rfl rfl)
theorem dX4_isSo_2 : decode cX4_isSo 2 = .ok (.invokevirtual 286, 3) := dk_182 1 30 (dk_at dksX4_isSo_0 2 rfl rfl)
theorem dX4_isSo_5 : decode cX4_isSo 5 = .ok (.istore_n 2, 1) := dk_61 (dk_at dksX4_isSo_0 5 rfl rfl)
theorem dX4_isSo_6 : decode cX4_isSo 6 = .ok (.iconst 0, 1) := dk_3 (dk_at dksX4_isSo_0 6 rfl rfl)
theorem dX4_isSo_7 : decode cX4_isSo 7 = .ok (.istore_n 3, 1) := dk_62 (dk_at dksX4_isSo_0 7 rfl rfl)
theorem dX4_isSo_8 : decode cX4_isSo 8 = .ok (.iload_n 3, 1) := dk_29 (dk_at dksX4_isSo_0 8 rfl rfl)
theorem dX4_isSo_9 : decode cX4_isSo 9 = .ok (.aload_n 0, 1) := dk_42 (dk_at dksX4_isSo_0 9 rfl rfl)
theorem dX4_isSo_10 : decode cX4_isSo 10 = .ok (.getfield 7, 3) := dk_180 0 7 (dk_at dksX4_isSo_0 10 rfl rfl)
theorem dX4_isSo_13 : decode cX4_isSo 13 = .ok (.bipush 56, 2) := dk_16 56 (dk_at dksX4_isSo_0 13 rfl rfl)
theorem dX4_isSo_15 : decode cX4_isSo 15 = .ok (.iaload, 1) := dk_46 (dk_at dksX4_isSo_0 15 rfl rfl)
theorem dX4_isSo_16 : decode cX4_isSo 16 = .ok (.if_icmp .ge 62, 3) := dk_162 0 62 (dk_at dksX4_isSo_0 16 rfl rfl)
theorem dX4_isSo_19 : decode cX4_isSo 19 = .ok (.iload_n 2, 1) := dk_28 (dk_at dksX4_isSo_0 19 rfl rfl)
theorem dX4_isSo_20 : decode cX4_isSo 20 = .ok (.ifCond .eq 58, 3) := dk_153 0 58 (dk_at dksX4_isSo_0 20 rfl rfl)
theorem dX4_isSo_23 : decode cX4_isSo 23 = .ok (.bipush 57, 2) := dk_16 57 (dk_at dksX4_isSo_1 0 rfl rfl)
theorem dX4_isSo_25 : decode cX4_isSo 25 = .ok (.iconst 3, 1) := dk_6 (dk_at dksX4_isSo_1 2 rfl rfl)
theorem dX4_isSo_26 : decode cX4_isSo 26 = .ok (.iload_n 3, 1) := dk_29 (dk_at dksX4_isSo_1 3 rfl rfl)
theorem dX4_isSo_27 : decode cX4_isSo 27 = .ok (.imul, 1) := dk_104 (dk_at dksX4_isSo_1 4 rfl rfl)
theorem dX4_isSo_28 : decode cX4_isSo 28 = .ok (.iadd, 1) := dk_96 (dk_at dksX4_isSo_1 5 rfl rfl)
theorem dX4_isSo_29 : decode cX4_isSo 29 = .ok (.istore 4, 2) := dk_54 4 (dk_at dksX4_isSo_1 6 rfl rfl)
theorem dX4_isSo_31 : decode cX4_isSo 31 = .ok (.aload_n 0, 1) := dk_42 (dk_at dksX4_isSo_1 8 rfl rfl)
theorem dX4_isSo_32 : decode cX4_isSo 32 = .ok (.aload_n 0, 1) := dk_42 (dk_at dksX4_isSo_1 9 rfl rfl)
theorem dX4_isSo_33 : decode cX4_isSo 33 = .ok (.getfield 7, 3) := dk_180 0 7 (dk_at dksX4_isSo_1 10 rfl rfl)
theorem dX4_isSo_36 : decode cX4_isSo 36 = .ok (.iload 4, 2) := dk_21 4 (dk_at dksX4_isSo_1 13 rfl rfl)
theorem dX4_isSo_38 : decode cX4_isSo 38 = .ok (.iaload, 1) := dk_46 (dk_at dksX4_isSo_1 15 rfl rfl)
theorem dX4_isSo_39 : decode cX4_isSo 39 = .ok (.aload_n 0, 1) := dk_42 (dk_at dksX4_isSo_1 16 rfl rfl)
theorem dX4_isSo_40 : decode cX4_isSo 40 = .ok (.getfield 7, 3) := dk_180 0 7 (dk_at dksX4_isSo_1 17 rfl rfl)
theorem dX4_isSo_43 : decode cX4_isSo 43 = .ok (.iload 4, 2) := dk_21 4 (dk_at dksX4_isSo_1 20 rfl rfl)
theorem dX4_isSo_45 : decode cX4_isSo 45 = .ok (.iconst 1, 1) := dk_4 (dk_at dksX4_isSo_1 22 rfl rfl)
theorem dX4_isSo_46 : decode cX4_isSo 46 = .ok (.iadd, 1) := dk_96 (dk_at dksX4_isSo_1 23 rfl rfl)
theorem dX4_isSo_47 : decode cX4_isSo 47 = .ok (.iaload, 1) := dk_46 (dk_at dksX4_isSo_2 0 rfl rfl)
theorem dX4_isSo_48 : decode cX4_isSo 48 = .ok (.invokevirtual 260, 3) := dk_182 1 4 (dk_at dksX4_isSo_2 1 rfl rfl)
theorem dX4_isSo_51 : decode cX4_isSo 51 = .ok (.invokestatic 229, 3) := dk_184 0 229 (dk_at dksX4_isSo_2 4 rfl rfl)
theorem dX4_isSo_54 : decode cX4_isSo 54 = .ok (.aload_n 0, 1) := dk_42 (dk_at dksX4_isSo_2 7 rfl rfl)
theorem dX4_isSo_55 : decode cX4_isSo 55 = .ok (.getfield 7, 3) := dk_180 0 7 (dk_at dksX4_isSo_2 8 rfl rfl)
theorem dX4_isSo_58 : decode cX4_isSo 58 = .ok (.iload 4, 2) := dk_21 4 (dk_at dksX4_isSo_2 11 rfl rfl)
theorem dX4_isSo_60 : decode cX4_isSo 60 = .ok (.iconst 2, 1) := dk_5 (dk_at dksX4_isSo_2 13 rfl rfl)
theorem dX4_isSo_61 : decode cX4_isSo 61 = .ok (.iadd, 1) := dk_96 (dk_at dksX4_isSo_2 14 rfl rfl)
theorem dX4_isSo_62 : decode cX4_isSo 62 = .ok (.iaload, 1) := dk_46 (dk_at dksX4_isSo_2 15 rfl rfl)
theorem dX4_isSo_63 : decode cX4_isSo 63 = .ok (.if_icmp .ne 7, 3) := dk_160 0 7 (dk_at dksX4_isSo_2 16 rfl rfl)
theorem dX4_isSo_66 : decode cX4_isSo 66 = .ok (.iconst 1, 1) := dk_4 (dk_at dksX4_isSo_2 19 rfl rfl)
theorem dX4_isSo_67 : decode cX4_isSo 67 = .ok (.goto 4, 3) := dk_167 0 4 (dk_at dksX4_isSo_2 20 rfl rfl)
theorem dX4_isSo_70 : decode cX4_isSo 70 = .ok (.iconst 0, 1) := dk_3 (dk_at dksX4_isSo_2 23 rfl rfl)
theorem dX4_isSo_71 : decode cX4_isSo 71 = .ok (.istore_n 2, 1) := dk_61 (dk_at dksX4_isSo_3 0 rfl rfl)
theorem dX4_isSo_72 : decode cX4_isSo 72 = .ok (.iinc 3 1, 3) := dk_132 3 1 (dk_at dksX4_isSo_3 1 rfl rfl)
theorem dX4_isSo_75 : decode cX4_isSo 75 = .ok (.goto (-67), 3) := dk_167 255 189 (dk_at dksX4_isSo_3 4 rfl rfl)
theorem dX4_isSo_78 : decode cX4_isSo 78 = .ok (.iload_n 2, 1) := dk_28 (dk_at dksX4_isSo_3 7 rfl rfl)
theorem dX4_isSo_79 : decode cX4_isSo 79 = .ok (.ireturn, 1) := dk_172 (dk_at dksX4_isSo_3 8 rfl rfl)
abbrev cX4_listen : ByteArray := prog_13_method_90_code
def yX4_listen : MethodName := ⟨RX4, "listen", "(II)I"⟩
def dkwX4_listen_10 : List UInt8 := [21, 4, 167, 0, 4, 29, 172]
abbrev dktX4_listen_10 : List UInt8 := dkwX4_listen_10 ++ []
def dkwX4_listen_9 : List UInt8 := [62, 132, 5, 1, 167, 255, 162, 21, 4, 16, 252, 160, 0, 8, 16, 252, 167, 0, 13, 28, 154, 0, 8]
abbrev dktX4_listen_9 : List UInt8 := dkwX4_listen_9 ++ dktX4_listen_10
def dkwX4_listen_8 : List UInt8 := [162, 0, 8, 21, 5, 167, 0, 5, 21, 4, 54, 4, 21, 6, 29, 162, 0, 8, 21, 6, 167, 0, 4, 29]
abbrev dktX4_listen_8 : List UInt8 := dkwX4_listen_8 ++ dktX4_listen_9
def dkwX4_listen_7 : List UInt8 := [21, 5, 104, 21, 7, 96, 46, 167, 0, 5, 21, 6, 54, 6, 132, 7, 1, 167, 255, 209, 21, 6, 29]
abbrev dktX4_listen_7 : List UInt8 := dkwX4_listen_7 ++ dktX4_listen_8
def dkwX4_listen_6 : List UInt8 := [180, 0, 35, 16, 6, 21, 5, 104, 21, 7, 96, 46, 21, 6, 164, 0, 19, 42, 180, 0, 35, 16, 6]
abbrev dktX4_listen_6 : List UInt8 := dkwX4_listen_6 ++ dktX4_listen_7
def dkwX4_listen_5 : List UInt8 := [3, 54, 5, 21, 5, 16, 30, 163, 0, 93, 3, 54, 6, 3, 54, 7, 21, 7, 8, 163, 0, 47, 42]
abbrev dktX4_listen_5 : List UInt8 := dkwX4_listen_5 ++ dktX4_listen_6
def dkwX4_listen_4 : List UInt8 := [182, 1, 4, 184, 0, 229, 96, 92, 46, 4, 96, 79, 132, 6, 1, 167, 255, 221, 132, 5, 1, 167, 255, 191]
abbrev dktX4_listen_4 : List UInt8 := dkwX4_listen_4 ++ dktX4_listen_5
def dkwX4_listen_3 : List UInt8 := [3, 54, 6, 21, 6, 16, 30, 163, 0, 34, 42, 180, 0, 35, 16, 6, 21, 6, 104, 42, 27, 21, 6]
abbrev dktX4_listen_3 : List UInt8 := dkwX4_listen_3 ++ dktX4_listen_4
def dkwX4_listen_2 : List UInt8 := [3, 54, 5, 21, 5, 42, 182, 1, 27, 162, 0, 62, 42, 21, 5, 182, 1, 63, 153, 0, 47, 132, 3, 1]
abbrev dktX4_listen_2 : List UInt8 := dkwX4_listen_2 ++ dktX4_listen_3
def dkwX4_listen_1 : List UInt8 := [54, 5, 21, 5, 17, 0, 186, 162, 0, 17, 42, 180, 0, 35, 21, 5, 3, 79, 132, 5, 1, 167, 255, 237]
abbrev dktX4_listen_1 : List UInt8 := dkwX4_listen_1 ++ dktX4_listen_2
def dkwX4_listen_0 : List UInt8 := [42, 27, 182, 0, 218, 153, 0, 10, 28, 184, 0, 235, 154, 0, 5, 2, 172, 3, 62, 16, 252, 54, 4, 3]
abbrev dktX4_listen_0 : List UInt8 := dkwX4_listen_0 ++ dktX4_listen_1
theorem dksX4_listen_0 : cX4_listen.data.toList.drop 0 = dktX4_listen_0 := by decide +kernel
theorem dksX4_listen_1 : cX4_listen.data.toList.drop 24 = dktX4_listen_1 := dk_seg dksX4_listen_0 24 rfl rfl
theorem dksX4_listen_2 : cX4_listen.data.toList.drop 48 = dktX4_listen_2 := dk_seg dksX4_listen_1 24 rfl rfl
theorem dksX4_listen_3 : cX4_listen.data.toList.drop 72 = dktX4_listen_3 := dk_seg dksX4_listen_2 24 rfl rfl
theorem dksX4_listen_4 : cX4_listen.data.toList.drop 95 = dktX4_listen_4 := dk_seg dksX4_listen_3 23 rfl rfl
theorem dksX4_listen_5 : cX4_listen.data.toList.drop 119 = dktX4_listen_5 := dk_seg dksX4_listen_4 24 rfl rfl
theorem dksX4_listen_6 : cX4_listen.data.toList.drop 142 = dktX4_listen_6 := dk_seg dksX4_listen_5 23 rfl rfl
theorem dksX4_listen_7 : cX4_listen.data.toList.drop 165 = dktX4_listen_7 := dk_seg dksX4_listen_6 23 rfl rfl
theorem dksX4_listen_8 : cX4_listen.data.toList.drop 188 = dktX4_listen_8 := dk_seg dksX4_listen_7 23 rfl rfl
theorem dksX4_listen_9 : cX4_listen.data.toList.drop 212 = dktX4_listen_9 := dk_seg dksX4_listen_8 24 rfl rfl
theorem dksX4_listen_10 : cX4_listen.data.toList.drop 235 = dktX4_listen_10 := dk_seg dksX4_listen_9 23 rfl rfl
theorem dX4_listen_0 : decode cX4_listen 0 = .ok (.aload_n 0, 1) := dk_42 (dk_at dksX4_listen_0 0 rfl rfl)
theorem dX4_listen_1 : decode cX4_listen 1 = .ok (.iload_n 1, 1) := dk_27 (dk_at dksX4_listen_0 1 rfl rfl)
theorem dX4_listen_2 : decode cX4_listen 2 = .ok (.invokevirtual 218, 3) := dk_182 0 218 (dk_at dksX4_listen_0 2 rfl rfl)
theorem dX4_listen_5 : decode cX4_listen 5 = .ok (.ifCond .eq 10, 3) := dk_153 0 10 (dk_at dksX4_listen_0 5 rfl rfl)
theorem dX4_listen_8 : decode cX4_listen 8 = .ok (.iload_n 2, 1) := dk_28 (dk_at dksX4_listen_0 8 rfl rfl)
theorem dX4_listen_9 : decode cX4_listen 9 = .ok (.invokestatic 235, 3) := dk_184 0 235 (dk_at dksX4_listen_0 9 rfl rfl)
theorem dX4_listen_12 : decode cX4_listen 12 = .ok (.ifCond .ne 5, 3) := dk_154 0 5 (dk_at dksX4_listen_0 12 rfl rfl)
theorem dX4_listen_15 : decode cX4_listen 15 = .ok (.iconst (-1), 1) := dk_2 (dk_at dksX4_listen_0 15 rfl rfl)
theorem dX4_listen_16 : decode cX4_listen 16 = .ok (.ireturn, 1) := dk_172 (dk_at dksX4_listen_0 16 rfl rfl)
theorem dX4_listen_17 : decode cX4_listen 17 = .ok (.iconst 0, 1) := dk_3 (dk_at dksX4_listen_0 17 rfl rfl)
theorem dX4_listen_18 : decode cX4_listen 18 = .ok (.istore_n 3, 1) := dk_62 (dk_at dksX4_listen_0 18 rfl rfl)
theorem dX4_listen_19 : decode cX4_listen 19 = .ok (.bipush (-4), 2) := dk_16 252 (dk_at dksX4_listen_0 19 rfl rfl)
theorem dX4_listen_21 : decode cX4_listen 21 = .ok (.istore 4, 2) := dk_54 4 (dk_at dksX4_listen_0 21 rfl rfl)
theorem dX4_listen_23 : decode cX4_listen 23 = .ok (.iconst 0, 1) := dk_3 (dk_at dksX4_listen_0 23 rfl rfl)
theorem dX4_listen_24 : decode cX4_listen 24 = .ok (.istore 5, 2) := dk_54 5 (dk_at dksX4_listen_1 0 rfl rfl)
theorem dX4_listen_26 : decode cX4_listen 26 = .ok (.iload 5, 2) := dk_21 5 (dk_at dksX4_listen_1 2 rfl rfl)
theorem dX4_listen_28 : decode cX4_listen 28 = .ok (.sipush 186, 3) := dk_17 0 186 (dk_at dksX4_listen_1 4 rfl rfl)
theorem dX4_listen_31 : decode cX4_listen 31 = .ok (.if_icmp .ge 17, 3) := dk_162 0 17 (dk_at dksX4_listen_1 7 rfl rfl)
theorem dX4_listen_34 : decode cX4_listen 34 = .ok (.aload_n 0, 1) := dk_42 (dk_at dksX4_listen_1 10 rfl rfl)
theorem dX4_listen_35 : decode cX4_listen 35 = .ok (.getfield 35, 3) := dk_180 0 35 (dk_at dksX4_listen_1 11 rfl rfl)
theorem dX4_listen_38 : decode cX4_listen 38 = .ok (.iload 5, 2) := dk_21 5 (dk_at dksX4_listen_1 14 rfl rfl)
theorem dX4_listen_40 : decode cX4_listen 40 = .ok (.iconst 0, 1) := dk_3 (dk_at dksX4_listen_1 16 rfl rfl)
theorem dX4_listen_41 : decode cX4_listen 41 = .ok (.iastore, 1) := dk_79 (dk_at dksX4_listen_1 17 rfl rfl)
theorem dX4_listen_42 : decode cX4_listen 42 = .ok (.iinc 5 1, 3) := dk_132 5 1 (dk_at dksX4_listen_1 18 rfl rfl)
theorem dX4_listen_45 : decode cX4_listen 45 = .ok (.goto (-19), 3) := dk_167 255 237 (dk_at dksX4_listen_1 21 rfl rfl)
theorem dX4_listen_48 : decode cX4_listen 48 = .ok (.iconst 0, 1) := dk_3 (dk_at dksX4_listen_2 0 rfl rfl)
theorem dX4_listen_49 : decode cX4_listen 49 = .ok (.istore 5, 2) := dk_54 5 (dk_at dksX4_listen_2 1 rfl rfl)
theorem dX4_listen_51 : decode cX4_listen 51 = .ok (.iload 5, 2) := dk_21 5 (dk_at dksX4_listen_2 3 rfl rfl)
theorem dX4_listen_53 : decode cX4_listen 53 = .ok (.aload_n 0, 1) := dk_42 (dk_at dksX4_listen_2 5 rfl rfl)
theorem dX4_listen_54 : decode cX4_listen 54 = .ok (.invokevirtual 283, 3) := dk_182 1 27 (dk_at dksX4_listen_2 6 rfl rfl)
theorem dX4_listen_57 : decode cX4_listen 57 = .ok (.if_icmp .ge 62, 3) := dk_162 0 62 (dk_at dksX4_listen_2 9 rfl rfl)
theorem dX4_listen_60 : decode cX4_listen 60 = .ok (.aload_n 0, 1) := dk_42 (dk_at dksX4_listen_2 12 rfl rfl)
theorem dX4_listen_61 : decode cX4_listen 61 = .ok (.iload 5, 2) := dk_21 5 (dk_at dksX4_listen_2 13 rfl rfl)
theorem dX4_listen_63 : decode cX4_listen 63 = .ok (.invokevirtual 319, 3) := dk_182 1 63 (dk_at dksX4_listen_2 15 rfl rfl)
theorem dX4_listen_66 : decode cX4_listen 66 = .ok (.ifCond .eq 47, 3) := dk_153 0 47 (dk_at dksX4_listen_2 18 rfl rfl)
theorem dX4_listen_69 : decode cX4_listen 69 = .ok (.iinc 3 1, 3) := dk_132 3 1 (dk_at dksX4_listen_2 21 rfl rfl)
theorem dX4_listen_72 : decode cX4_listen 72 = .ok (.iconst 0, 1) := dk_3 (dk_at dksX4_listen_3 0 rfl rfl)
theorem dX4_listen_73 : decode cX4_listen 73 = .ok (.istore 6, 2) := dk_54 6 (dk_at dksX4_listen_3 1 rfl rfl)
theorem dX4_listen_75 : decode cX4_listen 75 = .ok (.iload 6, 2) := dk_21 6 (dk_at dksX4_listen_3 3 rfl rfl)
theorem dX4_listen_77 : decode cX4_listen 77 = .ok (.bipush 30, 2) := dk_16 30 (dk_at dksX4_listen_3 5 rfl rfl)
theorem dX4_listen_79 : decode cX4_listen 79 = .ok (.if_icmp .gt 34, 3) := dk_163 0 34 (dk_at dksX4_listen_3 7 rfl rfl)
theorem dX4_listen_82 : decode cX4_listen 82 = .ok (.aload_n 0, 1) := dk_42 (dk_at dksX4_listen_3 10 rfl rfl)
theorem dX4_listen_83 : decode cX4_listen 83 = .ok (.getfield 35, 3) := dk_180 0 35 (dk_at dksX4_listen_3 11 rfl rfl)
theorem dX4_listen_86 : decode cX4_listen 86 = .ok (.bipush 6, 2) := dk_16 6 (dk_at dksX4_listen_3 14 rfl rfl)
theorem dX4_listen_88 : decode cX4_listen 88 = .ok (.iload 6, 2) := dk_21 6 (dk_at dksX4_listen_3 16 rfl rfl)
theorem dX4_listen_90 : decode cX4_listen 90 = .ok (.imul, 1) := dk_104 (dk_at dksX4_listen_3 18 rfl rfl)
theorem dX4_listen_91 : decode cX4_listen 91 = .ok (.aload_n 0, 1) := dk_42 (dk_at dksX4_listen_3 19 rfl rfl)
theorem dX4_listen_92 : decode cX4_listen 92 = .ok (.iload_n 1, 1) := dk_27 (dk_at dksX4_listen_3 20 rfl rfl)
theorem dX4_listen_93 : decode cX4_listen 93 = .ok (.iload 6, 2) := dk_21 6 (dk_at dksX4_listen_3 21 rfl rfl)
theorem dX4_listen_95 : decode cX4_listen 95 = .ok (.invokevirtual 260, 3) := dk_182 1 4 (dk_at dksX4_listen_4 0 rfl rfl)
theorem dX4_listen_98 : decode cX4_listen 98 = .ok (.invokestatic 229, 3) := dk_184 0 229 (dk_at dksX4_listen_4 3 rfl rfl)
theorem dX4_listen_101 : decode cX4_listen 101 = .ok (.iadd, 1) := dk_96 (dk_at dksX4_listen_4 6 rfl rfl)
theorem dX4_listen_102 : decode cX4_listen 102 = .ok (.dup2, 1) := dk_92 (dk_at dksX4_listen_4 7 rfl rfl)
theorem dX4_listen_103 : decode cX4_listen 103 = .ok (.iaload, 1) := dk_46 (dk_at dksX4_listen_4 8 rfl rfl)
theorem dX4_listen_104 : decode cX4_listen 104 = .ok (.iconst 1, 1) := dk_4 (dk_at dksX4_listen_4 9 rfl rfl)
theorem dX4_listen_105 : decode cX4_listen 105 = .ok (.iadd, 1) := dk_96 (dk_at dksX4_listen_4 10 rfl rfl)
theorem dX4_listen_106 : decode cX4_listen 106 = .ok (.iastore, 1) := dk_79 (dk_at dksX4_listen_4 11 rfl rfl)
theorem dX4_listen_107 : decode cX4_listen 107 = .ok (.iinc 6 1, 3) := dk_132 6 1 (dk_at dksX4_listen_4 12 rfl rfl)
theorem dX4_listen_110 : decode cX4_listen 110 = .ok (.goto (-35), 3) := dk_167 255 221 (dk_at dksX4_listen_4 15 rfl rfl)
theorem dX4_listen_113 : decode cX4_listen 113 = .ok (.iinc 5 1, 3) := dk_132 5 1 (dk_at dksX4_listen_4 18 rfl rfl)
theorem dX4_listen_116 : decode cX4_listen 116 = .ok (.goto (-65), 3) := dk_167 255 191 (dk_at dksX4_listen_4 21 rfl rfl)
theorem dX4_listen_119 : decode cX4_listen 119 = .ok (.iconst 0, 1) := dk_3 (dk_at dksX4_listen_5 0 rfl rfl)
theorem dX4_listen_120 : decode cX4_listen 120 = .ok (.istore 5, 2) := dk_54 5 (dk_at dksX4_listen_5 1 rfl rfl)
theorem dX4_listen_122 : decode cX4_listen 122 = .ok (.iload 5, 2) := dk_21 5 (dk_at dksX4_listen_5 3 rfl rfl)
theorem dX4_listen_124 : decode cX4_listen 124 = .ok (.bipush 30, 2) := dk_16 30 (dk_at dksX4_listen_5 5 rfl rfl)
theorem dX4_listen_126 : decode cX4_listen 126 = .ok (.if_icmp .gt 93, 3) := dk_163 0 93 (dk_at dksX4_listen_5 7 rfl rfl)
theorem dX4_listen_129 : decode cX4_listen 129 = .ok (.iconst 0, 1) := dk_3 (dk_at dksX4_listen_5 10 rfl rfl)
theorem dX4_listen_130 : decode cX4_listen 130 = .ok (.istore 6, 2) := dk_54 6 (dk_at dksX4_listen_5 11 rfl rfl)
theorem dX4_listen_132 : decode cX4_listen 132 = .ok (.iconst 0, 1) := dk_3 (dk_at dksX4_listen_5 13 rfl rfl)
theorem dX4_listen_133 : decode cX4_listen 133 = .ok (.istore 7, 2) := dk_54 7 (dk_at dksX4_listen_5 14 rfl rfl)
theorem dX4_listen_135 : decode cX4_listen 135 = .ok (.iload 7, 2) := dk_21 7 (dk_at dksX4_listen_5 16 rfl rfl)
theorem dX4_listen_137 : decode cX4_listen 137 = .ok (.iconst 5, 1) := dk_8 (dk_at dksX4_listen_5 18 rfl rfl)
theorem dX4_listen_138 : decode cX4_listen 138 = .ok (.if_icmp .gt 47, 3) := dk_163 0 47 (dk_at dksX4_listen_5 19 rfl rfl)
theorem dX4_listen_141 : decode cX4_listen 141 = .ok (.aload_n 0, 1) := dk_42 (dk_at dksX4_listen_5 22 rfl rfl)
theorem dX4_listen_142 : decode cX4_listen 142 = .ok (.getfield 35, 3) := dk_180 0 35 (dk_at dksX4_listen_6 0 rfl rfl)
theorem dX4_listen_145 : decode cX4_listen 145 = .ok (.bipush 6, 2) := dk_16 6 (dk_at dksX4_listen_6 3 rfl rfl)
theorem dX4_listen_147 : decode cX4_listen 147 = .ok (.iload 5, 2) := dk_21 5 (dk_at dksX4_listen_6 5 rfl rfl)
theorem dX4_listen_149 : decode cX4_listen 149 = .ok (.imul, 1) := dk_104 (dk_at dksX4_listen_6 7 rfl rfl)
theorem dX4_listen_150 : decode cX4_listen 150 = .ok (.iload 7, 2) := dk_21 7 (dk_at dksX4_listen_6 8 rfl rfl)
theorem dX4_listen_152 : decode cX4_listen 152 = .ok (.iadd, 1) := dk_96 (dk_at dksX4_listen_6 10 rfl rfl)
theorem dX4_listen_153 : decode cX4_listen 153 = .ok (.iaload, 1) := dk_46 (dk_at dksX4_listen_6 11 rfl rfl)
theorem dX4_listen_154 : decode cX4_listen 154 = .ok (.iload 6, 2) := dk_21 6 (dk_at dksX4_listen_6 12 rfl rfl)
theorem dX4_listen_156 : decode cX4_listen 156 = .ok (.if_icmp .le 19, 3) := dk_164 0 19 (dk_at dksX4_listen_6 14 rfl rfl)
theorem dX4_listen_159 : decode cX4_listen 159 = .ok (.aload_n 0, 1) := dk_42 (dk_at dksX4_listen_6 17 rfl rfl)
theorem dX4_listen_160 : decode cX4_listen 160 = .ok (.getfield 35, 3) := dk_180 0 35 (dk_at dksX4_listen_6 18 rfl rfl)
theorem dX4_listen_163 : decode cX4_listen 163 = .ok (.bipush 6, 2) := dk_16 6 (dk_at dksX4_listen_6 21 rfl rfl)
theorem dX4_listen_165 : decode cX4_listen 165 = .ok (.iload 5, 2) := dk_21 5 (dk_at dksX4_listen_7 0 rfl rfl)
theorem dX4_listen_167 : decode cX4_listen 167 = .ok (.imul, 1) := dk_104 (dk_at dksX4_listen_7 2 rfl rfl)
theorem dX4_listen_168 : decode cX4_listen 168 = .ok (.iload 7, 2) := dk_21 7 (dk_at dksX4_listen_7 3 rfl rfl)
theorem dX4_listen_170 : decode cX4_listen 170 = .ok (.iadd, 1) := dk_96 (dk_at dksX4_listen_7 5 rfl rfl)
theorem dX4_listen_171 : decode cX4_listen 171 = .ok (.iaload, 1) := dk_46 (dk_at dksX4_listen_7 6 rfl rfl)
theorem dX4_listen_172 : decode cX4_listen 172 = .ok (.goto 5, 3) := dk_167 0 5 (dk_at dksX4_listen_7 7 rfl rfl)
theorem dX4_listen_175 : decode cX4_listen 175 = .ok (.iload 6, 2) := dk_21 6 (dk_at dksX4_listen_7 10 rfl rfl)
theorem dX4_listen_177 : decode cX4_listen 177 = .ok (.istore 6, 2) := dk_54 6 (dk_at dksX4_listen_7 12 rfl rfl)
theorem dX4_listen_179 : decode cX4_listen 179 = .ok (.iinc 7 1, 3) := dk_132 7 1 (dk_at dksX4_listen_7 14 rfl rfl)
theorem dX4_listen_182 : decode cX4_listen 182 = .ok (.goto (-47), 3) := dk_167 255 209 (dk_at dksX4_listen_7 17 rfl rfl)
theorem dX4_listen_185 : decode cX4_listen 185 = .ok (.iload 6, 2) := dk_21 6 (dk_at dksX4_listen_7 20 rfl rfl)
theorem dX4_listen_187 : decode cX4_listen 187 = .ok (.iload_n 3, 1) := dk_29 (dk_at dksX4_listen_7 22 rfl rfl)
theorem dX4_listen_188 : decode cX4_listen 188 = .ok (.if_icmp .ge 8, 3) := dk_162 0 8 (dk_at dksX4_listen_8 0 rfl rfl)
theorem dX4_listen_191 : decode cX4_listen 191 = .ok (.iload 5, 2) := dk_21 5 (dk_at dksX4_listen_8 3 rfl rfl)
theorem dX4_listen_193 : decode cX4_listen 193 = .ok (.goto 5, 3) := dk_167 0 5 (dk_at dksX4_listen_8 5 rfl rfl)
theorem dX4_listen_196 : decode cX4_listen 196 = .ok (.iload 4, 2) := dk_21 4 (dk_at dksX4_listen_8 8 rfl rfl)
theorem dX4_listen_198 : decode cX4_listen 198 = .ok (.istore 4, 2) := dk_54 4 (dk_at dksX4_listen_8 10 rfl rfl)
theorem dX4_listen_200 : decode cX4_listen 200 = .ok (.iload 6, 2) := dk_21 6 (dk_at dksX4_listen_8 12 rfl rfl)
theorem dX4_listen_202 : decode cX4_listen 202 = .ok (.iload_n 3, 1) := dk_29 (dk_at dksX4_listen_8 14 rfl rfl)
theorem dX4_listen_203 : decode cX4_listen 203 = .ok (.if_icmp .ge 8, 3) := dk_162 0 8 (dk_at dksX4_listen_8 15 rfl rfl)
theorem dX4_listen_206 : decode cX4_listen 206 = .ok (.iload 6, 2) := dk_21 6 (dk_at dksX4_listen_8 18 rfl rfl)
theorem dX4_listen_208 : decode cX4_listen 208 = .ok (.goto 4, 3) := dk_167 0 4 (dk_at dksX4_listen_8 20 rfl rfl)
theorem dX4_listen_211 : decode cX4_listen 211 = .ok (.iload_n 3, 1) := dk_29 (dk_at dksX4_listen_8 23 rfl rfl)
theorem dX4_listen_212 : decode cX4_listen 212 = .ok (.istore_n 3, 1) := dk_62 (dk_at dksX4_listen_9 0 rfl rfl)
theorem dX4_listen_213 : decode cX4_listen 213 = .ok (.iinc 5 1, 3) := dk_132 5 1 (dk_at dksX4_listen_9 1 rfl rfl)
theorem dX4_listen_216 : decode cX4_listen 216 = .ok (.goto (-94), 3) := dk_167 255 162 (dk_at dksX4_listen_9 4 rfl rfl)
theorem dX4_listen_219 : decode cX4_listen 219 = .ok (.iload 4, 2) := dk_21 4 (dk_at dksX4_listen_9 7 rfl rfl)
theorem dX4_listen_221 : decode cX4_listen 221 = .ok (.bipush (-4), 2) := dk_16 252 (dk_at dksX4_listen_9 9 rfl rfl)
theorem dX4_listen_223 : decode cX4_listen 223 = .ok (.if_icmp .ne 8, 3) := dk_160 0 8 (dk_at dksX4_listen_9 11 rfl rfl)
theorem dX4_listen_226 : decode cX4_listen 226 = .ok (.bipush (-4), 2) := dk_16 252 (dk_at dksX4_listen_9 14 rfl rfl)
theorem dX4_listen_228 : decode cX4_listen 228 = .ok (.goto 13, 3) := dk_167 0 13 (dk_at dksX4_listen_9 16 rfl rfl)
theorem dX4_listen_231 : decode cX4_listen 231 = .ok (.iload_n 2, 1) := dk_28 (dk_at dksX4_listen_9 19 rfl rfl)
theorem dX4_listen_232 : decode cX4_listen 232 = .ok (.ifCond .ne 8, 3) := dk_154 0 8 (dk_at dksX4_listen_9 20 rfl rfl)
theorem dX4_listen_235 : decode cX4_listen 235 = .ok (.iload 4, 2) := dk_21 4 (dk_at dksX4_listen_10 0 rfl rfl)
theorem dX4_listen_237 : decode cX4_listen 237 = .ok (.goto 4, 3) := dk_167 0 4 (dk_at dksX4_listen_10 2 rfl rfl)
theorem dX4_listen_240 : decode cX4_listen 240 = .ok (.iload_n 3, 1) := dk_29 (dk_at dksX4_listen_10 5 rfl rfl)
theorem dX4_listen_241 : decode cX4_listen 241 = .ok (.ireturn, 1) := dk_172 (dk_at dksX4_listen_10 6 rfl rfl)
abbrev cX4_drift : ByteArray := prog_13_method_92_code
def yX4_drift : MethodName := ⟨RX4, "drift", "(III)I"⟩
def dkwX4_drift_4 : List UInt8 := [182, 0, 200, 132, 5, 1, 167, 255, 200, 42, 29, 154, 0, 7, 4, 167, 0, 4, 6, 182, 1, 67, 172]
abbrev dktX4_drift_4 : List UInt8 := dkwX4_drift_4 ++ []
def dkwX4_drift_3 : List UInt8 := [42, 180, 0, 72, 112, 54, 6, 42, 21, 6, 182, 0, 168, 154, 0, 9, 42, 21, 6, 182, 0, 194, 42]
abbrev dktX4_drift_3 : List UInt8 := dkwX4_drift_3 ++ dktX4_drift_4
def dkwX4_drift_2 : List UInt8 := [162, 0, 56, 21, 4, 19, 1, 66, 104, 17, 48, 57, 96, 54, 4, 21, 4, 16, 16, 122, 17, 127, 255, 126]
abbrev dktX4_drift_2 : List UInt8 := dkwX4_drift_2 ++ dktX4_drift_3
def dkwX4_drift_1 : List UInt8 := [180, 0, 72, 154, 0, 6, 16, 254, 172, 27, 54, 4, 42, 182, 0, 209, 3, 54, 5, 21, 5, 28]
abbrev dktX4_drift_1 : List UInt8 := dkwX4_drift_1 ++ dktX4_drift_2
def dkwX4_drift_0 : List UInt8 := [28, 133, 10, 20, 0, 249, 184, 0, 80, 153, 0, 10, 29, 184, 0, 235, 154, 0, 5, 2, 172, 42]
abbrev dktX4_drift_0 : List UInt8 := dkwX4_drift_0 ++ dktX4_drift_1
theorem dksX4_drift_0 : cX4_drift.data.toList.drop 0 = dktX4_drift_0 := by decide +kernel
theorem dksX4_drift_1 : cX4_drift.data.toList.drop 22 = dktX4_drift_1 := dk_seg dksX4_drift_0 22 rfl rfl
theorem dksX4_drift_2 : cX4_drift.data.toList.drop 44 = dktX4_drift_2 := dk_seg dksX4_drift_1 22 rfl rfl
theorem dksX4_drift_3 : cX4_drift.data.toList.drop 68 = dktX4_drift_3 := dk_seg dksX4_drift_2 24 rfl rfl
theorem dksX4_drift_4 : cX4_drift.data.toList.drop 91 = dktX4_drift_4 := dk_seg dksX4_drift_3 23 rfl rfl
theorem dX4_drift_0 : decode cX4_drift 0 = .ok (.iload_n 2, 1) := dk_28 (dk_at dksX4_drift_0 0 rfl rfl)
theorem dX4_drift_1 : decode cX4_drift 1 = .ok (.i2l, 1) := dk_133 (dk_at dksX4_drift_0 1 rfl rfl)
theorem dX4_drift_2 : decode cX4_drift 2 = .ok (.lconst 1, 1) := dk_10 (dk_at dksX4_drift_0 2 rfl rfl)
theorem dX4_drift_3 : decode cX4_drift 3 = .ok (.ldc2_w 249, 3) := dk_20 0 249 (dk_at dksX4_drift_0 3 rfl rfl)
theorem dX4_drift_6 : decode cX4_drift 6 = .ok (.invokestatic 80, 3) := dk_184 0 80 (dk_at dksX4_drift_0 6 rfl rfl)
theorem dX4_drift_9 : decode cX4_drift 9 = .ok (.ifCond .eq 10, 3) := dk_153 0 10 (dk_at dksX4_drift_0 9 rfl rfl)
theorem dX4_drift_12 : decode cX4_drift 12 = .ok (.iload_n 3, 1) := dk_29 (dk_at dksX4_drift_0 12 rfl rfl)
theorem dX4_drift_13 : decode cX4_drift 13 = .ok (.invokestatic 235, 3) := dk_184 0 235 (dk_at dksX4_drift_0 13 rfl rfl)
theorem dX4_drift_16 : decode cX4_drift 16 = .ok (.ifCond .ne 5, 3) := dk_154 0 5 (dk_at dksX4_drift_0 16 rfl rfl)
theorem dX4_drift_19 : decode cX4_drift 19 = .ok (.iconst (-1), 1) := dk_2 (dk_at dksX4_drift_0 19 rfl rfl)
theorem dX4_drift_20 : decode cX4_drift 20 = .ok (.ireturn, 1) := dk_172 (dk_at dksX4_drift_0 20 rfl rfl)
theorem dX4_drift_21 : decode cX4_drift 21 = .ok (.aload_n 0, 1) := dk_42 (dk_at dksX4_drift_0 21 rfl rfl)
theorem dX4_drift_22 : decode cX4_drift 22 = .ok (.getfield 72, 3) := dk_180 0 72 (dk_at dksX4_drift_1 0 rfl rfl)
theorem dX4_drift_25 : decode cX4_drift 25 = .ok (.ifCond .ne 6, 3) := dk_154 0 6 (dk_at dksX4_drift_1 3 rfl rfl)
theorem dX4_drift_28 : decode cX4_drift 28 = .ok (.bipush (-2), 2) := dk_16 254 (dk_at dksX4_drift_1 6 rfl rfl)
theorem dX4_drift_30 : decode cX4_drift 30 = .ok (.ireturn, 1) := dk_172 (dk_at dksX4_drift_1 8 rfl rfl)
theorem dX4_drift_31 : decode cX4_drift 31 = .ok (.iload_n 1, 1) := dk_27 (dk_at dksX4_drift_1 9 rfl rfl)
theorem dX4_drift_32 : decode cX4_drift 32 = .ok (.istore 4, 2) := dk_54 4 (dk_at dksX4_drift_1 10 rfl rfl)
theorem dX4_drift_34 : decode cX4_drift 34 = .ok (.aload_n 0, 1) := dk_42 (dk_at dksX4_drift_1 12 rfl rfl)
theorem dX4_drift_35 : decode cX4_drift 35 = .ok (.invokevirtual 209, 3) := dk_182 0 209 (dk_at dksX4_drift_1 13 rfl rfl)
theorem dX4_drift_38 : decode cX4_drift 38 = .ok (.iconst 0, 1) := dk_3 (dk_at dksX4_drift_1 16 rfl rfl)
theorem dX4_drift_39 : decode cX4_drift 39 = .ok (.istore 5, 2) := dk_54 5 (dk_at dksX4_drift_1 17 rfl rfl)
theorem dX4_drift_41 : decode cX4_drift 41 = .ok (.iload 5, 2) := dk_21 5 (dk_at dksX4_drift_1 19 rfl rfl)
theorem dX4_drift_43 : decode cX4_drift 43 = .ok (.iload_n 2, 1) := dk_28 (dk_at dksX4_drift_1 21 rfl rfl)
theorem dX4_drift_44 : decode cX4_drift 44 = .ok (.if_icmp .ge 56, 3) := dk_162 0 56 (dk_at dksX4_drift_2 0 rfl rfl)
theorem dX4_drift_47 : decode cX4_drift 47 = .ok (.iload 4, 2) := dk_21 4 (dk_at dksX4_drift_2 3 rfl rfl)
theorem dX4_drift_49 : decode cX4_drift 49 = .ok (.ldc_w 322, 3) := dk_19 1 66 (dk_at dksX4_drift_2 5 rfl rfl)
theorem dX4_drift_52 : decode cX4_drift 52 = .ok (.imul, 1) := dk_104 (dk_at dksX4_drift_2 8 rfl rfl)
theorem dX4_drift_53 : decode cX4_drift 53 = .ok (.sipush 12345, 3) := dk_17 48 57 (dk_at dksX4_drift_2 9 rfl rfl)
theorem dX4_drift_56 : decode cX4_drift 56 = .ok (.iadd, 1) := dk_96 (dk_at dksX4_drift_2 12 rfl rfl)
theorem dX4_drift_57 : decode cX4_drift 57 = .ok (.istore 4, 2) := dk_54 4 (dk_at dksX4_drift_2 13 rfl rfl)
theorem dX4_drift_59 : decode cX4_drift 59 = .ok (.iload 4, 2) := dk_21 4 (dk_at dksX4_drift_2 15 rfl rfl)
theorem dX4_drift_61 : decode cX4_drift 61 = .ok (.bipush 16, 2) := dk_16 16 (dk_at dksX4_drift_2 17 rfl rfl)
theorem dX4_drift_63 : decode cX4_drift 63 = .ok (.ishr, 1) := dk_122 (dk_at dksX4_drift_2 19 rfl rfl)
theorem dX4_drift_64 : decode cX4_drift 64 = .ok (.sipush 32767, 3) := dk_17 127 255 (dk_at dksX4_drift_2 20 rfl rfl)
theorem dX4_drift_67 : decode cX4_drift 67 = .ok (.iand, 1) := dk_126 (dk_at dksX4_drift_2 23 rfl rfl)
theorem dX4_drift_68 : decode cX4_drift 68 = .ok (.aload_n 0, 1) := dk_42 (dk_at dksX4_drift_3 0 rfl rfl)
theorem dX4_drift_69 : decode cX4_drift 69 = .ok (.getfield 72, 3) := dk_180 0 72 (dk_at dksX4_drift_3 1 rfl rfl)
theorem dX4_drift_72 : decode cX4_drift 72 = .ok (.irem, 1) := dk_112 (dk_at dksX4_drift_3 4 rfl rfl)
theorem dX4_drift_73 : decode cX4_drift 73 = .ok (.istore 6, 2) := dk_54 6 (dk_at dksX4_drift_3 5 rfl rfl)
theorem dX4_drift_75 : decode cX4_drift 75 = .ok (.aload_n 0, 1) := dk_42 (dk_at dksX4_drift_3 7 rfl rfl)
theorem dX4_drift_76 : decode cX4_drift 76 = .ok (.iload 6, 2) := dk_21 6 (dk_at dksX4_drift_3 8 rfl rfl)
theorem dX4_drift_78 : decode cX4_drift 78 = .ok (.invokevirtual 168, 3) := dk_182 0 168 (dk_at dksX4_drift_3 10 rfl rfl)
theorem dX4_drift_81 : decode cX4_drift 81 = .ok (.ifCond .ne 9, 3) := dk_154 0 9 (dk_at dksX4_drift_3 13 rfl rfl)
theorem dX4_drift_84 : decode cX4_drift 84 = .ok (.aload_n 0, 1) := dk_42 (dk_at dksX4_drift_3 16 rfl rfl)
theorem dX4_drift_85 : decode cX4_drift 85 = .ok (.iload 6, 2) := dk_21 6 (dk_at dksX4_drift_3 17 rfl rfl)
theorem dX4_drift_87 : decode cX4_drift 87 = .ok (.invokevirtual 194, 3) := dk_182 0 194 (dk_at dksX4_drift_3 19 rfl rfl)
theorem dX4_drift_90 : decode cX4_drift 90 = .ok (.aload_n 0, 1) := dk_42 (dk_at dksX4_drift_3 22 rfl rfl)
theorem dX4_drift_91 : decode cX4_drift 91 = .ok (.invokevirtual 200, 3) := dk_182 0 200 (dk_at dksX4_drift_4 0 rfl rfl)
theorem dX4_drift_94 : decode cX4_drift 94 = .ok (.iinc 5 1, 3) := dk_132 5 1 (dk_at dksX4_drift_4 3 rfl rfl)
theorem dX4_drift_97 : decode cX4_drift 97 = .ok (.goto (-56), 3) := dk_167 255 200 (dk_at dksX4_drift_4 6 rfl rfl)
theorem dX4_drift_100 : decode cX4_drift 100 = .ok (.aload_n 0, 1) := dk_42 (dk_at dksX4_drift_4 9 rfl rfl)
theorem dX4_drift_101 : decode cX4_drift 101 = .ok (.iload_n 3, 1) := dk_29 (dk_at dksX4_drift_4 10 rfl rfl)
theorem dX4_drift_102 : decode cX4_drift 102 = .ok (.ifCond .ne 7, 3) := dk_154 0 7 (dk_at dksX4_drift_4 11 rfl rfl)
theorem dX4_drift_105 : decode cX4_drift 105 = .ok (.iconst 1, 1) := dk_4 (dk_at dksX4_drift_4 14 rfl rfl)
theorem dX4_drift_106 : decode cX4_drift 106 = .ok (.goto 4, 3) := dk_167 0 4 (dk_at dksX4_drift_4 15 rfl rfl)
theorem dX4_drift_109 : decode cX4_drift 109 = .ok (.iconst 3, 1) := dk_6 (dk_at dksX4_drift_4 18 rfl rfl)
theorem dX4_drift_110 : decode cX4_drift 110 = .ok (.invokevirtual 323, 3) := dk_182 1 67 (dk_at dksX4_drift_4 19 rfl rfl)
theorem dX4_drift_113 : decode cX4_drift 113 = .ok (.ireturn, 1) := dk_172 (dk_at dksX4_drift_4 22 rfl rfl)
abbrev cX4_allOf : ByteArray := prog_13_method_91_code
def yX4_allOf : MethodName := ⟨RX4, "allOf", "(I)I"⟩
def dkwX4_allOf_1 : List UInt8 := [167, 0, 9, 42, 29, 27, 182, 0, 165, 96, 61, 132, 3, 1, 167, 255, 224, 28, 172]
abbrev dktX4_allOf_1 : List UInt8 := dkwX4_allOf_1 ++ []
def dkwX4_allOf_0 : List UInt8 := [3, 61, 3, 62, 29, 42, 180, 0, 72, 162, 0, 30, 28, 42, 29, 182, 0, 168, 153, 0, 7, 3]
abbrev dktX4_allOf_0 : List UInt8 := dkwX4_allOf_0 ++ dktX4_allOf_1
theorem dksX4_allOf_0 : cX4_allOf.data.toList.drop 0 = dktX4_allOf_0 := by decide +kernel
theorem dksX4_allOf_1 : cX4_allOf.data.toList.drop 22 = dktX4_allOf_1 := dk_seg dksX4_allOf_0 22 rfl rfl
theorem dX4_allOf_0 : decode cX4_allOf 0 = .ok (.iconst 0, 1) := dk_3 (dk_at dksX4_allOf_0 0 rfl rfl)
theorem dX4_allOf_1 : decode cX4_allOf 1 = .ok (.istore_n 2, 1) := dk_61 (dk_at dksX4_allOf_0 1 rfl rfl)
theorem dX4_allOf_2 : decode cX4_allOf 2 = .ok (.iconst 0, 1) := dk_3 (dk_at dksX4_allOf_0 2 rfl rfl)
theorem dX4_allOf_3 : decode cX4_allOf 3 = .ok (.istore_n 3, 1) := dk_62 (dk_at dksX4_allOf_0 3 rfl rfl)
theorem dX4_allOf_4 : decode cX4_allOf 4 = .ok (.iload_n 3, 1) := dk_29 (dk_at dksX4_allOf_0 4 rfl rfl)
theorem dX4_allOf_5 : decode cX4_allOf 5 = .ok (.aload_n 0, 1) := dk_42 (dk_at dksX4_allOf_0 5 rfl rfl)
theorem dX4_allOf_6 : decode cX4_allOf 6 = .ok (.getfield 72, 3) := dk_180 0 72 (dk_at dksX4_allOf_0 6 rfl rfl)
theorem dX4_allOf_9 : decode cX4_allOf 9 = .ok (.if_icmp .ge 30, 3) := dk_162 0 30 (dk_at dksX4_allOf_0 9 rfl rfl)
theorem dX4_allOf_12 : decode cX4_allOf 12 = .ok (.iload_n 2, 1) := dk_28 (dk_at dksX4_allOf_0 12 rfl rfl)
theorem dX4_allOf_13 : decode cX4_allOf 13 = .ok (.aload_n 0, 1) := dk_42 (dk_at dksX4_allOf_0 13 rfl rfl)
theorem dX4_allOf_14 : decode cX4_allOf 14 = .ok (.iload_n 3, 1) := dk_29 (dk_at dksX4_allOf_0 14 rfl rfl)
theorem dX4_allOf_15 : decode cX4_allOf 15 = .ok (.invokevirtual 168, 3) := dk_182 0 168 (dk_at dksX4_allOf_0 15 rfl rfl)
theorem dX4_allOf_18 : decode cX4_allOf 18 = .ok (.ifCond .eq 7, 3) := dk_153 0 7 (dk_at dksX4_allOf_0 18 rfl rfl)
theorem dX4_allOf_21 : decode cX4_allOf 21 = .ok (.iconst 0, 1) := dk_3 (dk_at dksX4_allOf_0 21 rfl rfl)
theorem dX4_allOf_22 : decode cX4_allOf 22 = .ok (.goto 9, 3) := dk_167 0 9 (dk_at dksX4_allOf_1 0 rfl rfl)
theorem dX4_allOf_25 : decode cX4_allOf 25 = .ok (.aload_n 0, 1) := dk_42 (dk_at dksX4_allOf_1 3 rfl rfl)
theorem dX4_allOf_26 : decode cX4_allOf 26 = .ok (.iload_n 3, 1) := dk_29 (dk_at dksX4_allOf_1 4 rfl rfl)
theorem dX4_allOf_27 : decode cX4_allOf 27 = .ok (.iload_n 1, 1) := dk_27 (dk_at dksX4_allOf_1 5 rfl rfl)
theorem dX4_allOf_28 : decode cX4_allOf 28 = .ok (.invokevirtual 165, 3) := dk_182 0 165 (dk_at dksX4_allOf_1 6 rfl rfl)
theorem dX4_allOf_31 : decode cX4_allOf 31 = .ok (.iadd, 1) := dk_96 (dk_at dksX4_allOf_1 9 rfl rfl)
theorem dX4_allOf_32 : decode cX4_allOf 32 = .ok (.istore_n 2, 1) := dk_61 (dk_at dksX4_allOf_1 10 rfl rfl)
theorem dX4_allOf_33 : decode cX4_allOf 33 = .ok (.iinc 3 1, 3) := dk_132 3 1 (dk_at dksX4_allOf_1 11 rfl rfl)
theorem dX4_allOf_36 : decode cX4_allOf 36 = .ok (.goto (-32), 3) := dk_167 255 224 (dk_at dksX4_allOf_1 14 rfl rfl)
theorem dX4_allOf_39 : decode cX4_allOf 39 = .ok (.iload_n 2, 1) := dk_28 (dk_at dksX4_allOf_1 17 rfl rfl)
theorem dX4_allOf_40 : decode cX4_allOf 40 = .ok (.ireturn, 1) := dk_172 (dk_at dksX4_allOf_1 18 rfl rfl)
abbrev cX4_keep : ByteArray := prog_13_method_94_code
def yX4_keep : MethodName := ⟨RX4, "keep", "(I)I"⟩
def dkwX4_keep_1 : List UInt8 := [180, 0, 16, 27, 4, 84, 42, 16, 75, 27, 4, 96, 104, 3, 182, 1, 70, 28, 172]
abbrev dktX4_keep_1 : List UInt8 := dkwX4_keep_1 ++ []
def dkwX4_keep_0 : List UInt8 := [27, 133, 9, 10, 184, 0, 80, 154, 0, 5, 2, 172, 42, 180, 0, 16, 27, 51, 184, 0, 154, 61, 42]
abbrev dktX4_keep_0 : List UInt8 := dkwX4_keep_0 ++ dktX4_keep_1
theorem dksX4_keep_0 : cX4_keep.data.toList.drop 0 = dktX4_keep_0 := by decide +kernel
theorem dksX4_keep_1 : cX4_keep.data.toList.drop 23 = dktX4_keep_1 := dk_seg dksX4_keep_0 23 rfl rfl
theorem dX4_keep_0 : decode cX4_keep 0 = .ok (.iload_n 1, 1) := dk_27 (dk_at dksX4_keep_0 0 rfl rfl)
theorem dX4_keep_1 : decode cX4_keep 1 = .ok (.i2l, 1) := dk_133 (dk_at dksX4_keep_0 1 rfl rfl)
theorem dX4_keep_2 : decode cX4_keep 2 = .ok (.lconst 0, 1) := dk_9 (dk_at dksX4_keep_0 2 rfl rfl)
theorem dX4_keep_3 : decode cX4_keep 3 = .ok (.lconst 1, 1) := dk_10 (dk_at dksX4_keep_0 3 rfl rfl)
theorem dX4_keep_4 : decode cX4_keep 4 = .ok (.invokestatic 80, 3) := dk_184 0 80 (dk_at dksX4_keep_0 4 rfl rfl)
theorem dX4_keep_7 : decode cX4_keep 7 = .ok (.ifCond .ne 5, 3) := dk_154 0 5 (dk_at dksX4_keep_0 7 rfl rfl)
theorem dX4_keep_10 : decode cX4_keep 10 = .ok (.iconst (-1), 1) := dk_2 (dk_at dksX4_keep_0 10 rfl rfl)
theorem dX4_keep_11 : decode cX4_keep 11 = .ok (.ireturn, 1) := dk_172 (dk_at dksX4_keep_0 11 rfl rfl)
theorem dX4_keep_12 : decode cX4_keep 12 = .ok (.aload_n 0, 1) := dk_42 (dk_at dksX4_keep_0 12 rfl rfl)
theorem dX4_keep_13 : decode cX4_keep 13 = .ok (.getfield 16, 3) := dk_180 0 16 (dk_at dksX4_keep_0 13 rfl rfl)
theorem dX4_keep_16 : decode cX4_keep 16 = .ok (.iload_n 1, 1) := dk_27 (dk_at dksX4_keep_0 16 rfl rfl)
theorem dX4_keep_17 : decode cX4_keep 17 = .ok (.baload, 1) := dk_51 (dk_at dksX4_keep_0 17 rfl rfl)
theorem dX4_keep_18 : decode cX4_keep 18 = .ok (.invokestatic 154, 3) := dk_184 0 154 (dk_at dksX4_keep_0 18 rfl rfl)
theorem dX4_keep_21 : decode cX4_keep 21 = .ok (.istore_n 2, 1) := dk_61 (dk_at dksX4_keep_0 21 rfl rfl)
theorem dX4_keep_22 : decode cX4_keep 22 = .ok (.aload_n 0, 1) := dk_42 (dk_at dksX4_keep_0 22 rfl rfl)
theorem dX4_keep_23 : decode cX4_keep 23 = .ok (.getfield 16, 3) := dk_180 0 16 (dk_at dksX4_keep_1 0 rfl rfl)
theorem dX4_keep_26 : decode cX4_keep 26 = .ok (.iload_n 1, 1) := dk_27 (dk_at dksX4_keep_1 3 rfl rfl)
theorem dX4_keep_27 : decode cX4_keep 27 = .ok (.iconst 1, 1) := dk_4 (dk_at dksX4_keep_1 4 rfl rfl)
theorem dX4_keep_28 : decode cX4_keep 28 = .ok (.bastore, 1) := dk_84 (dk_at dksX4_keep_1 5 rfl rfl)
theorem dX4_keep_29 : decode cX4_keep 29 = .ok (.aload_n 0, 1) := dk_42 (dk_at dksX4_keep_1 6 rfl rfl)
theorem dX4_keep_30 : decode cX4_keep 30 = .ok (.bipush 75, 2) := dk_16 75 (dk_at dksX4_keep_1 7 rfl rfl)
theorem dX4_keep_32 : decode cX4_keep 32 = .ok (.iload_n 1, 1) := dk_27 (dk_at dksX4_keep_1 9 rfl rfl)
theorem dX4_keep_33 : decode cX4_keep 33 = .ok (.iconst 1, 1) := dk_4 (dk_at dksX4_keep_1 10 rfl rfl)
theorem dX4_keep_34 : decode cX4_keep 34 = .ok (.iadd, 1) := dk_96 (dk_at dksX4_keep_1 11 rfl rfl)
theorem dX4_keep_35 : decode cX4_keep 35 = .ok (.imul, 1) := dk_104 (dk_at dksX4_keep_1 12 rfl rfl)
theorem dX4_keep_36 : decode cX4_keep 36 = .ok (.iconst 0, 1) := dk_3 (dk_at dksX4_keep_1 13 rfl rfl)
theorem dX4_keep_37 : decode cX4_keep 37 = .ok (.invokevirtual 326, 3) := dk_182 1 70 (dk_at dksX4_keep_1 14 rfl rfl)
theorem dX4_keep_40 : decode cX4_keep 40 = .ok (.iload_n 2, 1) := dk_28 (dk_at dksX4_keep_1 17 rfl rfl)
theorem dX4_keep_41 : decode cX4_keep 41 = .ok (.ireturn, 1) := dk_172 (dk_at dksX4_keep_1 18 rfl rfl)
abbrev cX4_copies : ByteArray := prog_13_method_93_code
def yX4_copies : MethodName := ⟨RX4, "copies", "(II)V"⟩
def dkwX4_copies_1 : List UInt8 := [132, 3, 1, 167, 255, 231, 177]
abbrev dktX4_copies_1 : List UInt8 := dkwX4_copies_1 ++ []
def dkwX4_copies_0 : List UInt8 := [3, 62, 29, 16, 75, 162, 0, 25, 42, 180, 0, 7, 27, 29, 96, 42, 180, 0, 7, 28, 29, 96, 46, 79]
abbrev dktX4_copies_0 : List UInt8 := dkwX4_copies_0 ++ dktX4_copies_1
theorem dksX4_copies_0 : cX4_copies.data.toList.drop 0 = dktX4_copies_0 := by decide +kernel
theorem dksX4_copies_1 : cX4_copies.data.toList.drop 24 = dktX4_copies_1 := dk_seg dksX4_copies_0 24 rfl rfl
theorem dX4_copies_0 : decode cX4_copies 0 = .ok (.iconst 0, 1) := dk_3 (dk_at dksX4_copies_0 0 rfl rfl)
theorem dX4_copies_1 : decode cX4_copies 1 = .ok (.istore_n 3, 1) := dk_62 (dk_at dksX4_copies_0 1 rfl rfl)
theorem dX4_copies_2 : decode cX4_copies 2 = .ok (.iload_n 3, 1) := dk_29 (dk_at dksX4_copies_0 2 rfl rfl)
theorem dX4_copies_3 : decode cX4_copies 3 = .ok (.bipush 75, 2) := dk_16 75 (dk_at dksX4_copies_0 3 rfl rfl)
theorem dX4_copies_5 : decode cX4_copies 5 = .ok (.if_icmp .ge 25, 3) := dk_162 0 25 (dk_at dksX4_copies_0 5 rfl rfl)
theorem dX4_copies_8 : decode cX4_copies 8 = .ok (.aload_n 0, 1) := dk_42 (dk_at dksX4_copies_0 8 rfl rfl)
theorem dX4_copies_9 : decode cX4_copies 9 = .ok (.getfield 7, 3) := dk_180 0 7 (dk_at dksX4_copies_0 9 rfl rfl)
theorem dX4_copies_12 : decode cX4_copies 12 = .ok (.iload_n 1, 1) := dk_27 (dk_at dksX4_copies_0 12 rfl rfl)
theorem dX4_copies_13 : decode cX4_copies 13 = .ok (.iload_n 3, 1) := dk_29 (dk_at dksX4_copies_0 13 rfl rfl)
theorem dX4_copies_14 : decode cX4_copies 14 = .ok (.iadd, 1) := dk_96 (dk_at dksX4_copies_0 14 rfl rfl)
theorem dX4_copies_15 : decode cX4_copies 15 = .ok (.aload_n 0, 1) := dk_42 (dk_at dksX4_copies_0 15 rfl rfl)
theorem dX4_copies_16 : decode cX4_copies 16 = .ok (.getfield 7, 3) := dk_180 0 7 (dk_at dksX4_copies_0 16 rfl rfl)
theorem dX4_copies_19 : decode cX4_copies 19 = .ok (.iload_n 2, 1) := dk_28 (dk_at dksX4_copies_0 19 rfl rfl)
theorem dX4_copies_20 : decode cX4_copies 20 = .ok (.iload_n 3, 1) := dk_29 (dk_at dksX4_copies_0 20 rfl rfl)
theorem dX4_copies_21 : decode cX4_copies 21 = .ok (.iadd, 1) := dk_96 (dk_at dksX4_copies_0 21 rfl rfl)
theorem dX4_copies_22 : decode cX4_copies 22 = .ok (.iaload, 1) := dk_46 (dk_at dksX4_copies_0 22 rfl rfl)
theorem dX4_copies_23 : decode cX4_copies 23 = .ok (.iastore, 1) := dk_79 (dk_at dksX4_copies_0 23 rfl rfl)
theorem dX4_copies_24 : decode cX4_copies 24 = .ok (.iinc 3 1, 3) := dk_132 3 1 (dk_at dksX4_copies_1 0 rfl rfl)
theorem dX4_copies_27 : decode cX4_copies 27 = .ok (.goto (-25), 3) := dk_167 255 231 (dk_at dksX4_copies_1 3 rfl rfl)
theorem dX4_copies_30 : decode cX4_copies 30 = .ok (.return_, 1) := dk_177 (dk_at dksX4_copies_1 6 rfl rfl)
abbrev cX4_back : ByteArray := prog_13_method_95_code
def yX4_back : MethodName := ⟨RX4, "back", "(I)I"⟩
def dkwX4_back_1 : List UInt8 := [42, 3, 16, 75, 27, 4, 96, 104, 182, 1, 70, 42, 180, 0, 7, 16, 55, 46, 172]
abbrev dktX4_back_1 : List UInt8 := dkwX4_back_1 ++ []
def dkwX4_back_0 : List UInt8 := [27, 133, 9, 10, 184, 0, 80, 154, 0, 5, 2, 172, 42, 180, 0, 16, 27, 51, 154, 0, 6, 16, 254, 172]
abbrev dktX4_back_0 : List UInt8 := dkwX4_back_0 ++ dktX4_back_1
theorem dksX4_back_0 : cX4_back.data.toList.drop 0 = dktX4_back_0 := by decide +kernel
theorem dksX4_back_1 : cX4_back.data.toList.drop 24 = dktX4_back_1 := dk_seg dksX4_back_0 24 rfl rfl
theorem dX4_back_0 : decode cX4_back 0 = .ok (.iload_n 1, 1) := dk_27 (dk_at dksX4_back_0 0 rfl rfl)
theorem dX4_back_1 : decode cX4_back 1 = .ok (.i2l, 1) := dk_133 (dk_at dksX4_back_0 1 rfl rfl)
theorem dX4_back_2 : decode cX4_back 2 = .ok (.lconst 0, 1) := dk_9 (dk_at dksX4_back_0 2 rfl rfl)
theorem dX4_back_3 : decode cX4_back 3 = .ok (.lconst 1, 1) := dk_10 (dk_at dksX4_back_0 3 rfl rfl)
theorem dX4_back_4 : decode cX4_back 4 = .ok (.invokestatic 80, 3) := dk_184 0 80 (dk_at dksX4_back_0 4 rfl rfl)
theorem dX4_back_7 : decode cX4_back 7 = .ok (.ifCond .ne 5, 3) := dk_154 0 5 (dk_at dksX4_back_0 7 rfl rfl)
theorem dX4_back_10 : decode cX4_back 10 = .ok (.iconst (-1), 1) := dk_2 (dk_at dksX4_back_0 10 rfl rfl)
theorem dX4_back_11 : decode cX4_back 11 = .ok (.ireturn, 1) := dk_172 (dk_at dksX4_back_0 11 rfl rfl)
theorem dX4_back_12 : decode cX4_back 12 = .ok (.aload_n 0, 1) := dk_42 (dk_at dksX4_back_0 12 rfl rfl)
theorem dX4_back_13 : decode cX4_back 13 = .ok (.getfield 16, 3) := dk_180 0 16 (dk_at dksX4_back_0 13 rfl rfl)
theorem dX4_back_16 : decode cX4_back 16 = .ok (.iload_n 1, 1) := dk_27 (dk_at dksX4_back_0 16 rfl rfl)
theorem dX4_back_17 : decode cX4_back 17 = .ok (.baload, 1) := dk_51 (dk_at dksX4_back_0 17 rfl rfl)
theorem dX4_back_18 : decode cX4_back 18 = .ok (.ifCond .ne 6, 3) := dk_154 0 6 (dk_at dksX4_back_0 18 rfl rfl)
theorem dX4_back_21 : decode cX4_back 21 = .ok (.bipush (-2), 2) := dk_16 254 (dk_at dksX4_back_0 21 rfl rfl)
theorem dX4_back_23 : decode cX4_back 23 = .ok (.ireturn, 1) := dk_172 (dk_at dksX4_back_0 23 rfl rfl)
theorem dX4_back_24 : decode cX4_back 24 = .ok (.aload_n 0, 1) := dk_42 (dk_at dksX4_back_1 0 rfl rfl)
theorem dX4_back_25 : decode cX4_back 25 = .ok (.iconst 0, 1) := dk_3 (dk_at dksX4_back_1 1 rfl rfl)
theorem dX4_back_26 : decode cX4_back 26 = .ok (.bipush 75, 2) := dk_16 75 (dk_at dksX4_back_1 2 rfl rfl)
theorem dX4_back_28 : decode cX4_back 28 = .ok (.iload_n 1, 1) := dk_27 (dk_at dksX4_back_1 4 rfl rfl)
theorem dX4_back_29 : decode cX4_back 29 = .ok (.iconst 1, 1) := dk_4 (dk_at dksX4_back_1 5 rfl rfl)
theorem dX4_back_30 : decode cX4_back 30 = .ok (.iadd, 1) := dk_96 (dk_at dksX4_back_1 6 rfl rfl)
theorem dX4_back_31 : decode cX4_back 31 = .ok (.imul, 1) := dk_104 (dk_at dksX4_back_1 7 rfl rfl)
theorem dX4_back_32 : decode cX4_back 32 = .ok (.invokevirtual 326, 3) := dk_182 1 70 (dk_at dksX4_back_1 8 rfl rfl)
theorem dX4_back_35 : decode cX4_back 35 = .ok (.aload_n 0, 1) := dk_42 (dk_at dksX4_back_1 11 rfl rfl)
theorem dX4_back_36 : decode cX4_back 36 = .ok (.getfield 7, 3) := dk_180 0 7 (dk_at dksX4_back_1 12 rfl rfl)
theorem dX4_back_39 : decode cX4_back 39 = .ok (.bipush 55, 2) := dk_16 55 (dk_at dksX4_back_1 15 rfl rfl)
theorem dX4_back_41 : decode cX4_back 41 = .ok (.iaload, 1) := dk_46 (dk_at dksX4_back_1 17 rfl rfl)
theorem dX4_back_42 : decode cX4_back 42 = .ok (.ireturn, 1) := dk_172 (dk_at dksX4_back_1 18 rfl rfl)
abbrev cX4_sheet : ByteArray := prog_13_method_97_code
def yX4_sheet : MethodName := ⟨RX4, "sheet", "(III)I"⟩
def dkwX4_sheet_2 : List UInt8 := [180, 0, 44, 16, 40, 27, 104, 21, 4, 96, 3, 79, 132, 4, 1, 167, 255, 233, 4, 172]
abbrev dktX4_sheet_2 : List UInt8 := dkwX4_sheet_2 ++ []
def dkwX4_sheet_1 : List UInt8 := [180, 0, 38, 27, 28, 79, 42, 180, 0, 41, 27, 29, 79, 3, 54, 4, 21, 4, 16, 40, 162, 0, 22, 42]
abbrev dktX4_sheet_1 : List UInt8 := dkwX4_sheet_1 ++ dktX4_sheet_2
def dkwX4_sheet_0 : List UInt8 := [27, 28, 184, 1, 74, 153, 0, 9, 29, 16, 40, 164, 0, 5, 2, 172, 29, 156, 0, 6, 16, 242, 172, 42]
abbrev dktX4_sheet_0 : List UInt8 := dkwX4_sheet_0 ++ dktX4_sheet_1
theorem dksX4_sheet_0 : cX4_sheet.data.toList.drop 0 = dktX4_sheet_0 := by decide +kernel
theorem dksX4_sheet_1 : cX4_sheet.data.toList.drop 24 = dktX4_sheet_1 := dk_seg dksX4_sheet_0 24 rfl rfl
theorem dksX4_sheet_2 : cX4_sheet.data.toList.drop 48 = dktX4_sheet_2 := dk_seg dksX4_sheet_1 24 rfl rfl
theorem dX4_sheet_0 : decode cX4_sheet 0 = .ok (.iload_n 1, 1) := dk_27 (dk_at dksX4_sheet_0 0 rfl rfl)
theorem dX4_sheet_1 : decode cX4_sheet 1 = .ok (.iload_n 2, 1) := dk_28 (dk_at dksX4_sheet_0 1 rfl rfl)
theorem dX4_sheet_2 : decode cX4_sheet 2 = .ok (.invokestatic 330, 3) := dk_184 1 74 (dk_at dksX4_sheet_0 2 rfl rfl)
theorem dX4_sheet_5 : decode cX4_sheet 5 = .ok (.ifCond .eq 9, 3) := dk_153 0 9 (dk_at dksX4_sheet_0 5 rfl rfl)
theorem dX4_sheet_8 : decode cX4_sheet 8 = .ok (.iload_n 3, 1) := dk_29 (dk_at dksX4_sheet_0 8 rfl rfl)
theorem dX4_sheet_9 : decode cX4_sheet 9 = .ok (.bipush 40, 2) := dk_16 40 (dk_at dksX4_sheet_0 9 rfl rfl)
theorem dX4_sheet_11 : decode cX4_sheet 11 = .ok (.if_icmp .le 5, 3) := dk_164 0 5 (dk_at dksX4_sheet_0 11 rfl rfl)
theorem dX4_sheet_14 : decode cX4_sheet 14 = .ok (.iconst (-1), 1) := dk_2 (dk_at dksX4_sheet_0 14 rfl rfl)
theorem dX4_sheet_15 : decode cX4_sheet 15 = .ok (.ireturn, 1) := dk_172 (dk_at dksX4_sheet_0 15 rfl rfl)
theorem dX4_sheet_16 : decode cX4_sheet 16 = .ok (.iload_n 3, 1) := dk_29 (dk_at dksX4_sheet_0 16 rfl rfl)
theorem dX4_sheet_17 : decode cX4_sheet 17 = .ok (.ifCond .ge 6, 3) := dk_156 0 6 (dk_at dksX4_sheet_0 17 rfl rfl)
theorem dX4_sheet_20 : decode cX4_sheet 20 = .ok (.bipush (-14), 2) := dk_16 242 (dk_at dksX4_sheet_0 20 rfl rfl)
theorem dX4_sheet_22 : decode cX4_sheet 22 = .ok (.ireturn, 1) := dk_172 (dk_at dksX4_sheet_0 22 rfl rfl)
theorem dX4_sheet_23 : decode cX4_sheet 23 = .ok (.aload_n 0, 1) := dk_42 (dk_at dksX4_sheet_0 23 rfl rfl)
theorem dX4_sheet_24 : decode cX4_sheet 24 = .ok (.getfield 38, 3) := dk_180 0 38 (dk_at dksX4_sheet_1 0 rfl rfl)
theorem dX4_sheet_27 : decode cX4_sheet 27 = .ok (.iload_n 1, 1) := dk_27 (dk_at dksX4_sheet_1 3 rfl rfl)
theorem dX4_sheet_28 : decode cX4_sheet 28 = .ok (.iload_n 2, 1) := dk_28 (dk_at dksX4_sheet_1 4 rfl rfl)
theorem dX4_sheet_29 : decode cX4_sheet 29 = .ok (.iastore, 1) := dk_79 (dk_at dksX4_sheet_1 5 rfl rfl)
theorem dX4_sheet_30 : decode cX4_sheet 30 = .ok (.aload_n 0, 1) := dk_42 (dk_at dksX4_sheet_1 6 rfl rfl)
theorem dX4_sheet_31 : decode cX4_sheet 31 = .ok (.getfield 41, 3) := dk_180 0 41 (dk_at dksX4_sheet_1 7 rfl rfl)
theorem dX4_sheet_34 : decode cX4_sheet 34 = .ok (.iload_n 1, 1) := dk_27 (dk_at dksX4_sheet_1 10 rfl rfl)
theorem dX4_sheet_35 : decode cX4_sheet 35 = .ok (.iload_n 3, 1) := dk_29 (dk_at dksX4_sheet_1 11 rfl rfl)
theorem dX4_sheet_36 : decode cX4_sheet 36 = .ok (.iastore, 1) := dk_79 (dk_at dksX4_sheet_1 12 rfl rfl)
theorem dX4_sheet_37 : decode cX4_sheet 37 = .ok (.iconst 0, 1) := dk_3 (dk_at dksX4_sheet_1 13 rfl rfl)
theorem dX4_sheet_38 : decode cX4_sheet 38 = .ok (.istore 4, 2) := dk_54 4 (dk_at dksX4_sheet_1 14 rfl rfl)
theorem dX4_sheet_40 : decode cX4_sheet 40 = .ok (.iload 4, 2) := dk_21 4 (dk_at dksX4_sheet_1 16 rfl rfl)
theorem dX4_sheet_42 : decode cX4_sheet 42 = .ok (.bipush 40, 2) := dk_16 40 (dk_at dksX4_sheet_1 18 rfl rfl)
theorem dX4_sheet_44 : decode cX4_sheet 44 = .ok (.if_icmp .ge 22, 3) := dk_162 0 22 (dk_at dksX4_sheet_1 20 rfl rfl)
theorem dX4_sheet_47 : decode cX4_sheet 47 = .ok (.aload_n 0, 1) := dk_42 (dk_at dksX4_sheet_1 23 rfl rfl)
theorem dX4_sheet_48 : decode cX4_sheet 48 = .ok (.getfield 44, 3) := dk_180 0 44 (dk_at dksX4_sheet_2 0 rfl rfl)
theorem dX4_sheet_51 : decode cX4_sheet 51 = .ok (.bipush 40, 2) := dk_16 40 (dk_at dksX4_sheet_2 3 rfl rfl)
theorem dX4_sheet_53 : decode cX4_sheet 53 = .ok (.iload_n 1, 1) := dk_27 (dk_at dksX4_sheet_2 5 rfl rfl)
theorem dX4_sheet_54 : decode cX4_sheet 54 = .ok (.imul, 1) := dk_104 (dk_at dksX4_sheet_2 6 rfl rfl)
theorem dX4_sheet_55 : decode cX4_sheet 55 = .ok (.iload 4, 2) := dk_21 4 (dk_at dksX4_sheet_2 7 rfl rfl)
theorem dX4_sheet_57 : decode cX4_sheet 57 = .ok (.iadd, 1) := dk_96 (dk_at dksX4_sheet_2 9 rfl rfl)
theorem dX4_sheet_58 : decode cX4_sheet 58 = .ok (.iconst 0, 1) := dk_3 (dk_at dksX4_sheet_2 10 rfl rfl)
theorem dX4_sheet_59 : decode cX4_sheet 59 = .ok (.iastore, 1) := dk_79 (dk_at dksX4_sheet_2 11 rfl rfl)
theorem dX4_sheet_60 : decode cX4_sheet 60 = .ok (.iinc 4 1, 3) := dk_132 4 1 (dk_at dksX4_sheet_2 12 rfl rfl)
theorem dX4_sheet_63 : decode cX4_sheet 63 = .ok (.goto (-23), 3) := dk_167 255 233 (dk_at dksX4_sheet_2 15 rfl rfl)
theorem dX4_sheet_66 : decode cX4_sheet 66 = .ok (.iconst 1, 1) := dk_4 (dk_at dksX4_sheet_2 18 rfl rfl)
theorem dX4_sheet_67 : decode cX4_sheet 67 = .ok (.ireturn, 1) := dk_172 (dk_at dksX4_sheet_2 19 rfl rfl)
abbrev cX4_isSheet : ByteArray := prog_13_method_96_code
def yX4_isSheet : MethodName := ⟨RX4, "isSheet", "(II)Z"⟩
def dkwX4_isSheet_1 : List UInt8 := [4, 167, 0, 4, 3, 172]
abbrev dktX4_isSheet_1 : List UInt8 := dkwX4_isSheet_1 ++ []
def dkwX4_isSheet_0 : List UInt8 := [26, 133, 9, 20, 0, 244, 184, 0, 80, 153, 0, 19, 27, 133, 9, 20, 0, 221, 184, 0, 80, 153, 0, 7]
abbrev dktX4_isSheet_0 : List UInt8 := dkwX4_isSheet_0 ++ dktX4_isSheet_1
theorem dksX4_isSheet_0 : cX4_isSheet.data.toList.drop 0 = dktX4_isSheet_0 := by decide +kernel
theorem dksX4_isSheet_1 : cX4_isSheet.data.toList.drop 24 = dktX4_isSheet_1 := dk_seg dksX4_isSheet_0 24 rfl rfl
theorem dX4_isSheet_0 : decode cX4_isSheet 0 = .ok (.iload_n 0, 1) := dk_26 (dk_at dksX4_isSheet_0 0 rfl rfl)
theorem dX4_isSheet_1 : decode cX4_isSheet 1 = .ok (.i2l, 1) := dk_133 (dk_at dksX4_isSheet_0 1 rfl rfl)
theorem dX4_isSheet_2 : decode cX4_isSheet 2 = .ok (.lconst 0, 1) := dk_9 (dk_at dksX4_isSheet_0 2 rfl rfl)
theorem dX4_isSheet_3 : decode cX4_isSheet 3 = .ok (.ldc2_w 244, 3) := dk_20 0 244 (dk_at dksX4_isSheet_0 3 rfl rfl)
theorem dX4_isSheet_6 : decode cX4_isSheet 6 = .ok (.invokestatic 80, 3) := dk_184 0 80 (dk_at dksX4_isSheet_0 6 rfl rfl)
theorem dX4_isSheet_9 : decode cX4_isSheet 9 = .ok (.ifCond .eq 19, 3) := dk_153 0 19 (dk_at dksX4_isSheet_0 9 rfl rfl)
theorem dX4_isSheet_12 : decode cX4_isSheet 12 = .ok (.iload_n 1, 1) := dk_27 (dk_at dksX4_isSheet_0 12 rfl rfl)
theorem dX4_isSheet_13 : decode cX4_isSheet 13 = .ok (.i2l, 1) := dk_133 (dk_at dksX4_isSheet_0 13 rfl rfl)
theorem dX4_isSheet_14 : decode cX4_isSheet 14 = .ok (.lconst 0, 1) := dk_9 (dk_at dksX4_isSheet_0 14 rfl rfl)
theorem dX4_isSheet_15 : decode cX4_isSheet 15 = .ok (.ldc2_w 221, 3) := dk_20 0 221 (dk_at dksX4_isSheet_0 15 rfl rfl)
theorem dX4_isSheet_18 : decode cX4_isSheet 18 = .ok (.invokestatic 80, 3) := dk_184 0 80 (dk_at dksX4_isSheet_0 18 rfl rfl)
theorem dX4_isSheet_21 : decode cX4_isSheet 21 = .ok (.ifCond .eq 7, 3) := dk_153 0 7 (dk_at dksX4_isSheet_0 21 rfl rfl)
theorem dX4_isSheet_24 : decode cX4_isSheet 24 = .ok (.iconst 1, 1) := dk_4 (dk_at dksX4_isSheet_1 0 rfl rfl)
theorem dX4_isSheet_25 : decode cX4_isSheet 25 = .ok (.goto 4, 3) := dk_167 0 4 (dk_at dksX4_isSheet_1 1 rfl rfl)
theorem dX4_isSheet_28 : decode cX4_isSheet 28 = .ok (.iconst 0, 1) := dk_3 (dk_at dksX4_isSheet_1 4 rfl rfl)
theorem dX4_isSheet_29 : decode cX4_isSheet 29 = .ok (.ireturn, 1) := dk_172 (dk_at dksX4_isSheet_1 5 rfl rfl)
abbrev cX4_lay : ByteArray := prog_13_method_98_code
def yX4_lay : MethodName := ⟨RX4, "lay", "(III)I"⟩
def dkwX4_lay_3 : List UInt8 := [180, 0, 38, 27, 46, 4, 160, 0, 8, 29, 147, 167, 0, 4, 29, 79, 4, 172]
abbrev dktX4_lay_3 : List UInt8 := dkwX4_lay_3 ++ []
def dkwX4_lay_2 : List UInt8 := [180, 0, 44, 16, 40, 27, 104, 28, 96, 42, 180, 0, 38, 27, 46, 154, 0, 8, 29, 145, 167, 0, 19, 42]
abbrev dktX4_lay_2 : List UInt8 := dkwX4_lay_2 ++ dktX4_lay_3
def dkwX4_lay_1 : List UInt8 := [28, 133, 9, 42, 180, 0, 41, 27, 46, 4, 100, 133, 184, 0, 80, 154, 0, 6, 16, 244, 172, 42]
abbrev dktX4_lay_1 : List UInt8 := dkwX4_lay_1 ++ dktX4_lay_2
def dkwX4_lay_0 : List UInt8 := [27, 3, 184, 1, 74, 154, 0, 5, 2, 172, 42, 180, 0, 38, 27, 46, 16, 252, 160, 0, 6, 16, 245, 172]
abbrev dktX4_lay_0 : List UInt8 := dkwX4_lay_0 ++ dktX4_lay_1
theorem dksX4_lay_0 : cX4_lay.data.toList.drop 0 = dktX4_lay_0 := by decide +kernel
theorem dksX4_lay_1 : cX4_lay.data.toList.drop 24 = dktX4_lay_1 := dk_seg dksX4_lay_0 24 rfl rfl
theorem dksX4_lay_2 : cX4_lay.data.toList.drop 46 = dktX4_lay_2 := dk_seg dksX4_lay_1 22 rfl rfl
theorem dksX4_lay_3 : cX4_lay.data.toList.drop 70 = dktX4_lay_3 := dk_seg dksX4_lay_2 24 rfl rfl
theorem dX4_lay_0 : decode cX4_lay 0 = .ok (.iload_n 1, 1) := dk_27 (dk_at dksX4_lay_0 0 rfl rfl)
theorem dX4_lay_1 : decode cX4_lay 1 = .ok (.iconst 0, 1) := dk_3 (dk_at dksX4_lay_0 1 rfl rfl)
theorem dX4_lay_2 : decode cX4_lay 2 = .ok (.invokestatic 330, 3) := dk_184 1 74 (dk_at dksX4_lay_0 2 rfl rfl)
theorem dX4_lay_5 : decode cX4_lay 5 = .ok (.ifCond .ne 5, 3) := dk_154 0 5 (dk_at dksX4_lay_0 5 rfl rfl)
theorem dX4_lay_8 : decode cX4_lay 8 = .ok (.iconst (-1), 1) := dk_2 (dk_at dksX4_lay_0 8 rfl rfl)
theorem dX4_lay_9 : decode cX4_lay 9 = .ok (.ireturn, 1) := dk_172 (dk_at dksX4_lay_0 9 rfl rfl)
theorem dX4_lay_10 : decode cX4_lay 10 = .ok (.aload_n 0, 1) := dk_42 (dk_at dksX4_lay_0 10 rfl rfl)
theorem dX4_lay_11 : decode cX4_lay 11 = .ok (.getfield 38, 3) := dk_180 0 38 (dk_at dksX4_lay_0 11 rfl rfl)
theorem dX4_lay_14 : decode cX4_lay 14 = .ok (.iload_n 1, 1) := dk_27 (dk_at dksX4_lay_0 14 rfl rfl)
theorem dX4_lay_15 : decode cX4_lay 15 = .ok (.iaload, 1) := dk_46 (dk_at dksX4_lay_0 15 rfl rfl)
theorem dX4_lay_16 : decode cX4_lay 16 = .ok (.bipush (-4), 2) := dk_16 252 (dk_at dksX4_lay_0 16 rfl rfl)
theorem dX4_lay_18 : decode cX4_lay 18 = .ok (.if_icmp .ne 6, 3) := dk_160 0 6 (dk_at dksX4_lay_0 18 rfl rfl)
theorem dX4_lay_21 : decode cX4_lay 21 = .ok (.bipush (-11), 2) := dk_16 245 (dk_at dksX4_lay_0 21 rfl rfl)
theorem dX4_lay_23 : decode cX4_lay 23 = .ok (.ireturn, 1) := dk_172 (dk_at dksX4_lay_0 23 rfl rfl)
theorem dX4_lay_24 : decode cX4_lay 24 = .ok (.iload_n 2, 1) := dk_28 (dk_at dksX4_lay_1 0 rfl rfl)
theorem dX4_lay_25 : decode cX4_lay 25 = .ok (.i2l, 1) := dk_133 (dk_at dksX4_lay_1 1 rfl rfl)
theorem dX4_lay_26 : decode cX4_lay 26 = .ok (.lconst 0, 1) := dk_9 (dk_at dksX4_lay_1 2 rfl rfl)
theorem dX4_lay_27 : decode cX4_lay 27 = .ok (.aload_n 0, 1) := dk_42 (dk_at dksX4_lay_1 3 rfl rfl)
theorem dX4_lay_28 : decode cX4_lay 28 = .ok (.getfield 41, 3) := dk_180 0 41 (dk_at dksX4_lay_1 4 rfl rfl)
theorem dX4_lay_31 : decode cX4_lay 31 = .ok (.iload_n 1, 1) := dk_27 (dk_at dksX4_lay_1 7 rfl rfl)
theorem dX4_lay_32 : decode cX4_lay 32 = .ok (.iaload, 1) := dk_46 (dk_at dksX4_lay_1 8 rfl rfl)
theorem dX4_lay_33 : decode cX4_lay 33 = .ok (.iconst 1, 1) := dk_4 (dk_at dksX4_lay_1 9 rfl rfl)
theorem dX4_lay_34 : decode cX4_lay 34 = .ok (.isub, 1) := dk_100 (dk_at dksX4_lay_1 10 rfl rfl)
theorem dX4_lay_35 : decode cX4_lay 35 = .ok (.i2l, 1) := dk_133 (dk_at dksX4_lay_1 11 rfl rfl)
theorem dX4_lay_36 : decode cX4_lay 36 = .ok (.invokestatic 80, 3) := dk_184 0 80 (dk_at dksX4_lay_1 12 rfl rfl)
theorem dX4_lay_39 : decode cX4_lay 39 = .ok (.ifCond .ne 6, 3) := dk_154 0 6 (dk_at dksX4_lay_1 15 rfl rfl)
theorem dX4_lay_42 : decode cX4_lay 42 = .ok (.bipush (-12), 2) := dk_16 244 (dk_at dksX4_lay_1 18 rfl rfl)
theorem dX4_lay_44 : decode cX4_lay 44 = .ok (.ireturn, 1) := dk_172 (dk_at dksX4_lay_1 20 rfl rfl)
theorem dX4_lay_45 : decode cX4_lay 45 = .ok (.aload_n 0, 1) := dk_42 (dk_at dksX4_lay_1 21 rfl rfl)
theorem dX4_lay_46 : decode cX4_lay 46 = .ok (.getfield 44, 3) := dk_180 0 44 (dk_at dksX4_lay_2 0 rfl rfl)
theorem dX4_lay_49 : decode cX4_lay 49 = .ok (.bipush 40, 2) := dk_16 40 (dk_at dksX4_lay_2 3 rfl rfl)
theorem dX4_lay_51 : decode cX4_lay 51 = .ok (.iload_n 1, 1) := dk_27 (dk_at dksX4_lay_2 5 rfl rfl)
theorem dX4_lay_52 : decode cX4_lay 52 = .ok (.imul, 1) := dk_104 (dk_at dksX4_lay_2 6 rfl rfl)
theorem dX4_lay_53 : decode cX4_lay 53 = .ok (.iload_n 2, 1) := dk_28 (dk_at dksX4_lay_2 7 rfl rfl)
theorem dX4_lay_54 : decode cX4_lay 54 = .ok (.iadd, 1) := dk_96 (dk_at dksX4_lay_2 8 rfl rfl)
theorem dX4_lay_55 : decode cX4_lay 55 = .ok (.aload_n 0, 1) := dk_42 (dk_at dksX4_lay_2 9 rfl rfl)
theorem dX4_lay_56 : decode cX4_lay 56 = .ok (.getfield 38, 3) := dk_180 0 38 (dk_at dksX4_lay_2 10 rfl rfl)
theorem dX4_lay_59 : decode cX4_lay 59 = .ok (.iload_n 1, 1) := dk_27 (dk_at dksX4_lay_2 13 rfl rfl)
theorem dX4_lay_60 : decode cX4_lay 60 = .ok (.iaload, 1) := dk_46 (dk_at dksX4_lay_2 14 rfl rfl)
theorem dX4_lay_61 : decode cX4_lay 61 = .ok (.ifCond .ne 8, 3) := dk_154 0 8 (dk_at dksX4_lay_2 15 rfl rfl)
theorem dX4_lay_64 : decode cX4_lay 64 = .ok (.iload_n 3, 1) := dk_29 (dk_at dksX4_lay_2 18 rfl rfl)
theorem dX4_lay_65 : decode cX4_lay 65 = .ok (.i2b, 1) := dk_145 (dk_at dksX4_lay_2 19 rfl rfl)
theorem dX4_lay_66 : decode cX4_lay 66 = .ok (.goto 19, 3) := dk_167 0 19 (dk_at dksX4_lay_2 20 rfl rfl)
theorem dX4_lay_69 : decode cX4_lay 69 = .ok (.aload_n 0, 1) := dk_42 (dk_at dksX4_lay_2 23 rfl rfl)
theorem dX4_lay_70 : decode cX4_lay 70 = .ok (.getfield 38, 3) := dk_180 0 38 (dk_at dksX4_lay_3 0 rfl rfl)
theorem dX4_lay_73 : decode cX4_lay 73 = .ok (.iload_n 1, 1) := dk_27 (dk_at dksX4_lay_3 3 rfl rfl)
theorem dX4_lay_74 : decode cX4_lay 74 = .ok (.iaload, 1) := dk_46 (dk_at dksX4_lay_3 4 rfl rfl)
theorem dX4_lay_75 : decode cX4_lay 75 = .ok (.iconst 1, 1) := dk_4 (dk_at dksX4_lay_3 5 rfl rfl)
theorem dX4_lay_76 : decode cX4_lay 76 = .ok (.if_icmp .ne 8, 3) := dk_160 0 8 (dk_at dksX4_lay_3 6 rfl rfl)
theorem dX4_lay_79 : decode cX4_lay 79 = .ok (.iload_n 3, 1) := dk_29 (dk_at dksX4_lay_3 9 rfl rfl)
theorem dX4_lay_80 : decode cX4_lay 80 = .ok (.i2s, 1) := dk_147 (dk_at dksX4_lay_3 10 rfl rfl)
theorem dX4_lay_81 : decode cX4_lay 81 = .ok (.goto 4, 3) := dk_167 0 4 (dk_at dksX4_lay_3 11 rfl rfl)
theorem dX4_lay_84 : decode cX4_lay 84 = .ok (.iload_n 3, 1) := dk_29 (dk_at dksX4_lay_3 14 rfl rfl)
theorem dX4_lay_85 : decode cX4_lay 85 = .ok (.iastore, 1) := dk_79 (dk_at dksX4_lay_3 15 rfl rfl)
theorem dX4_lay_86 : decode cX4_lay 86 = .ok (.iconst 1, 1) := dk_4 (dk_at dksX4_lay_3 16 rfl rfl)
theorem dX4_lay_87 : decode cX4_lay 87 = .ok (.ireturn, 1) := dk_172 (dk_at dksX4_lay_3 17 rfl rfl)
abbrev cX4_read : ByteArray := prog_13_method_99_code
def yX4_read : MethodName := ⟨RX4, "read", "(IIII)I"⟩
def dkwX4_read_11 : List UInt8 := [21, 6, 172]
abbrev dktX4_read_11 : List UInt8 := dkwX4_read_11 ++ []
def dkwX4_read_10 : List UInt8 := [167, 255, 232, 16, 236, 21, 7, 100, 172, 132, 6, 1, 132, 7, 1, 167, 255, 71, 42, 21, 5, 181, 1, 82]
abbrev dktX4_read_10 : List UInt8 := dkwX4_read_10 ++ dktX4_read_11
def dkwX4_read_9 : List UInt8 := [16, 75, 162, 0, 23, 42, 180, 0, 7, 21, 9, 42, 180, 0, 47, 21, 9, 46, 79, 132, 9, 1]
abbrev dktX4_read_9 : List UInt8 := dkwX4_read_9 ++ dktX4_read_10
def dkwX4_read_8 : List UInt8 := [21, 8, 46, 42, 180, 0, 44, 21, 8, 4, 96, 46, 182, 1, 79, 156, 0, 39, 3, 54, 9, 21, 9]
abbrev dktX4_read_8 : List UInt8 := dkwX4_read_8 ++ dktX4_read_9
def dkwX4_read_7 : List UInt8 := [21, 5, 154, 0, 78, 16, 40, 27, 104, 29, 96, 5, 21, 7, 104, 96, 54, 8, 42, 42, 180, 0, 44]
abbrev dktX4_read_7 : List UInt8 := dkwX4_read_7 ++ dktX4_read_8
def dkwX4_read_6 : List UInt8 := [180, 0, 41, 27, 46, 133, 148, 155, 0, 7, 5, 167, 0, 4, 3, 54, 5, 132, 8, 1, 167, 255, 172]
abbrev dktX4_read_6 : List UInt8 := dkwX4_read_6 ++ dktX4_read_7
def dkwX4_read_5 : List UInt8 := [180, 0, 38, 27, 46, 28, 159, 0, 7, 6, 167, 0, 28, 22, 9, 9, 148, 155, 0, 16, 22, 9, 42]
abbrev dktX4_read_5 : List UInt8 := dkwX4_read_5 ++ dktX4_read_6
def dkwX4_read_4 : List UInt8 := [97, 21, 8, 133, 97, 55, 9, 42, 180, 0, 38, 27, 46, 16, 252, 160, 0, 7, 4, 167, 0, 42, 42]
abbrev dktX4_read_4 : List UInt8 := dkwX4_read_4 ++ dktX4_read_5
def dkwX4_read_3 : List UInt8 := [154, 0, 179, 3, 54, 8, 21, 8, 5, 162, 0, 84, 21, 5, 154, 0, 79, 29, 133, 5, 21, 7, 104, 133]
abbrev dktX4_read_3 : List UInt8 := dkwX4_read_3 ++ dktX4_read_4
def dkwX4_read_2 : List UInt8 := [132, 5, 1, 167, 255, 232, 3, 54, 5, 3, 54, 6, 3, 54, 7, 21, 7, 21, 4, 162, 0, 184, 21, 5]
abbrev dktX4_read_2 : List UInt8 := dkwX4_read_2 ++ dktX4_read_3
def dkwX4_read_1 : List UInt8 := [54, 5, 21, 5, 16, 75, 162, 0, 23, 42, 180, 0, 47, 21, 5, 42, 180, 0, 7, 21, 5, 46, 79]
abbrev dktX4_read_1 : List UInt8 := dkwX4_read_1 ++ dktX4_read_2
def dkwX4_read_0 : List UInt8 := [27, 28, 184, 1, 74, 153, 0, 16, 21, 4, 133, 9, 20, 1, 77, 184, 0, 80, 154, 0, 5, 2, 172, 3]
abbrev dktX4_read_0 : List UInt8 := dkwX4_read_0 ++ dktX4_read_1
theorem dksX4_read_0 : cX4_read.data.toList.drop 0 = dktX4_read_0 := by decide +kernel
theorem dksX4_read_1 : cX4_read.data.toList.drop 24 = dktX4_read_1 := dk_seg dksX4_read_0 24 rfl rfl
theorem dksX4_read_2 : cX4_read.data.toList.drop 47 = dktX4_read_2 := dk_seg dksX4_read_1 23 rfl rfl
theorem dksX4_read_3 : cX4_read.data.toList.drop 71 = dktX4_read_3 := dk_seg dksX4_read_2 24 rfl rfl
theorem dksX4_read_4 : cX4_read.data.toList.drop 95 = dktX4_read_4 := dk_seg dksX4_read_3 24 rfl rfl
theorem dksX4_read_5 : cX4_read.data.toList.drop 118 = dktX4_read_5 := dk_seg dksX4_read_4 23 rfl rfl
theorem dksX4_read_6 : cX4_read.data.toList.drop 141 = dktX4_read_6 := dk_seg dksX4_read_5 23 rfl rfl
theorem dksX4_read_7 : cX4_read.data.toList.drop 164 = dktX4_read_7 := dk_seg dksX4_read_6 23 rfl rfl
theorem dksX4_read_8 : cX4_read.data.toList.drop 187 = dktX4_read_8 := dk_seg dksX4_read_7 23 rfl rfl
theorem dksX4_read_9 : cX4_read.data.toList.drop 210 = dktX4_read_9 := dk_seg dksX4_read_8 23 rfl rfl
theorem dksX4_read_10 : cX4_read.data.toList.drop 232 = dktX4_read_10 := dk_seg dksX4_read_9 22 rfl rfl
theorem dksX4_read_11 : cX4_read.data.toList.drop 256 = dktX4_read_11 := dk_seg dksX4_read_10 24 rfl rfl
theorem dX4_read_0 : decode cX4_read 0 = .ok (.iload_n 1, 1) := dk_27 (dk_at dksX4_read_0 0 rfl rfl)
theorem dX4_read_1 : decode cX4_read 1 = .ok (.iload_n 2, 1) := dk_28 (dk_at dksX4_read_0 1 rfl rfl)
theorem dX4_read_2 : decode cX4_read 2 = .ok (.invokestatic 330, 3) := dk_184 1 74 (dk_at dksX4_read_0 2 rfl rfl)
theorem dX4_read_5 : decode cX4_read 5 = .ok (.ifCond .eq 16, 3) := dk_153 0 16 (dk_at dksX4_read_0 5 rfl rfl)
theorem dX4_read_8 : decode cX4_read 8 = .ok (.iload 4, 2) := dk_21 4 (dk_at dksX4_read_0 8 rfl rfl)
theorem dX4_read_10 : decode cX4_read 10 = .ok (.i2l, 1) := dk_133 (dk_at dksX4_read_0 10 rfl rfl)
theorem dX4_read_11 : decode cX4_read 11 = .ok (.lconst 0, 1) := dk_9 (dk_at dksX4_read_0 11 rfl rfl)
theorem dX4_read_12 : decode cX4_read 12 = .ok (.ldc2_w 333, 3) := dk_20 1 77 (dk_at dksX4_read_0 12 rfl rfl)
theorem dX4_read_15 : decode cX4_read 15 = .ok (.invokestatic 80, 3) := dk_184 0 80 (dk_at dksX4_read_0 15 rfl rfl)
theorem dX4_read_18 : decode cX4_read 18 = .ok (.ifCond .ne 5, 3) := dk_154 0 5 (dk_at dksX4_read_0 18 rfl rfl)
theorem dX4_read_21 : decode cX4_read 21 = .ok (.iconst (-1), 1) := dk_2 (dk_at dksX4_read_0 21 rfl rfl)
theorem dX4_read_22 : decode cX4_read 22 = .ok (.ireturn, 1) := dk_172 (dk_at dksX4_read_0 22 rfl rfl)
theorem dX4_read_23 : decode cX4_read 23 = .ok (.iconst 0, 1) := dk_3 (dk_at dksX4_read_0 23 rfl rfl)
theorem dX4_read_24 : decode cX4_read 24 = .ok (.istore 5, 2) := dk_54 5 (dk_at dksX4_read_1 0 rfl rfl)
theorem dX4_read_26 : decode cX4_read 26 = .ok (.iload 5, 2) := dk_21 5 (dk_at dksX4_read_1 2 rfl rfl)
theorem dX4_read_28 : decode cX4_read 28 = .ok (.bipush 75, 2) := dk_16 75 (dk_at dksX4_read_1 4 rfl rfl)
theorem dX4_read_30 : decode cX4_read 30 = .ok (.if_icmp .ge 23, 3) := dk_162 0 23 (dk_at dksX4_read_1 6 rfl rfl)
theorem dX4_read_33 : decode cX4_read 33 = .ok (.aload_n 0, 1) := dk_42 (dk_at dksX4_read_1 9 rfl rfl)
theorem dX4_read_34 : decode cX4_read 34 = .ok (.getfield 47, 3) := dk_180 0 47 (dk_at dksX4_read_1 10 rfl rfl)
theorem dX4_read_37 : decode cX4_read 37 = .ok (.iload 5, 2) := dk_21 5 (dk_at dksX4_read_1 13 rfl rfl)
theorem dX4_read_39 : decode cX4_read 39 = .ok (.aload_n 0, 1) := dk_42 (dk_at dksX4_read_1 15 rfl rfl)
theorem dX4_read_40 : decode cX4_read 40 = .ok (.getfield 7, 3) := dk_180 0 7 (dk_at dksX4_read_1 16 rfl rfl)
theorem dX4_read_43 : decode cX4_read 43 = .ok (.iload 5, 2) := dk_21 5 (dk_at dksX4_read_1 19 rfl rfl)
theorem dX4_read_45 : decode cX4_read 45 = .ok (.iaload, 1) := dk_46 (dk_at dksX4_read_1 21 rfl rfl)
theorem dX4_read_46 : decode cX4_read 46 = .ok (.iastore, 1) := dk_79 (dk_at dksX4_read_1 22 rfl rfl)
theorem dX4_read_47 : decode cX4_read 47 = .ok (.iinc 5 1, 3) := dk_132 5 1 (dk_at dksX4_read_2 0 rfl rfl)
theorem dX4_read_50 : decode cX4_read 50 = .ok (.goto (-24), 3) := dk_167 255 232 (dk_at dksX4_read_2 3 rfl rfl)
theorem dX4_read_53 : decode cX4_read 53 = .ok (.iconst 0, 1) := dk_3 (dk_at dksX4_read_2 6 rfl rfl)
theorem dX4_read_54 : decode cX4_read 54 = .ok (.istore 5, 2) := dk_54 5 (dk_at dksX4_read_2 7 rfl rfl)
theorem dX4_read_56 : decode cX4_read 56 = .ok (.iconst 0, 1) := dk_3 (dk_at dksX4_read_2 9 rfl rfl)
theorem dX4_read_57 : decode cX4_read 57 = .ok (.istore 6, 2) := dk_54 6 (dk_at dksX4_read_2 10 rfl rfl)
theorem dX4_read_59 : decode cX4_read 59 = .ok (.iconst 0, 1) := dk_3 (dk_at dksX4_read_2 12 rfl rfl)
theorem dX4_read_60 : decode cX4_read 60 = .ok (.istore 7, 2) := dk_54 7 (dk_at dksX4_read_2 13 rfl rfl)
theorem dX4_read_62 : decode cX4_read 62 = .ok (.iload 7, 2) := dk_21 7 (dk_at dksX4_read_2 15 rfl rfl)
theorem dX4_read_64 : decode cX4_read 64 = .ok (.iload 4, 2) := dk_21 4 (dk_at dksX4_read_2 17 rfl rfl)
theorem dX4_read_66 : decode cX4_read 66 = .ok (.if_icmp .ge 184, 3) := dk_162 0 184 (dk_at dksX4_read_2 19 rfl rfl)
theorem dX4_read_69 : decode cX4_read 69 = .ok (.iload 5, 2) := dk_21 5 (dk_at dksX4_read_2 22 rfl rfl)
theorem dX4_read_71 : decode cX4_read 71 = .ok (.ifCond .ne 179, 3) := dk_154 0 179 (dk_at dksX4_read_3 0 rfl rfl)
theorem dX4_read_74 : decode cX4_read 74 = .ok (.iconst 0, 1) := dk_3 (dk_at dksX4_read_3 3 rfl rfl)
theorem dX4_read_75 : decode cX4_read 75 = .ok (.istore 8, 2) := dk_54 8 (dk_at dksX4_read_3 4 rfl rfl)
theorem dX4_read_77 : decode cX4_read 77 = .ok (.iload 8, 2) := dk_21 8 (dk_at dksX4_read_3 6 rfl rfl)
theorem dX4_read_79 : decode cX4_read 79 = .ok (.iconst 2, 1) := dk_5 (dk_at dksX4_read_3 8 rfl rfl)
theorem dX4_read_80 : decode cX4_read 80 = .ok (.if_icmp .ge 84, 3) := dk_162 0 84 (dk_at dksX4_read_3 9 rfl rfl)
theorem dX4_read_83 : decode cX4_read 83 = .ok (.iload 5, 2) := dk_21 5 (dk_at dksX4_read_3 12 rfl rfl)
theorem dX4_read_85 : decode cX4_read 85 = .ok (.ifCond .ne 79, 3) := dk_154 0 79 (dk_at dksX4_read_3 14 rfl rfl)
theorem dX4_read_88 : decode cX4_read 88 = .ok (.iload_n 3, 1) := dk_29 (dk_at dksX4_read_3 17 rfl rfl)
theorem dX4_read_89 : decode cX4_read 89 = .ok (.i2l, 1) := dk_133 (dk_at dksX4_read_3 18 rfl rfl)
theorem dX4_read_90 : decode cX4_read 90 = .ok (.iconst 2, 1) := dk_5 (dk_at dksX4_read_3 19 rfl rfl)
theorem dX4_read_91 : decode cX4_read 91 = .ok (.iload 7, 2) := dk_21 7 (dk_at dksX4_read_3 20 rfl rfl)
theorem dX4_read_93 : decode cX4_read 93 = .ok (.imul, 1) := dk_104 (dk_at dksX4_read_3 22 rfl rfl)
theorem dX4_read_94 : decode cX4_read 94 = .ok (.i2l, 1) := dk_133 (dk_at dksX4_read_3 23 rfl rfl)
theorem dX4_read_95 : decode cX4_read 95 = .ok (.ladd, 1) := dk_97 (dk_at dksX4_read_4 0 rfl rfl)
theorem dX4_read_96 : decode cX4_read 96 = .ok (.iload 8, 2) := dk_21 8 (dk_at dksX4_read_4 1 rfl rfl)
theorem dX4_read_98 : decode cX4_read 98 = .ok (.i2l, 1) := dk_133 (dk_at dksX4_read_4 3 rfl rfl)
theorem dX4_read_99 : decode cX4_read 99 = .ok (.ladd, 1) := dk_97 (dk_at dksX4_read_4 4 rfl rfl)
theorem dX4_read_100 : decode cX4_read 100 = .ok (.lstore 9, 2) := dk_55 9 (dk_at dksX4_read_4 5 rfl rfl)
theorem dX4_read_102 : decode cX4_read 102 = .ok (.aload_n 0, 1) := dk_42 (dk_at dksX4_read_4 7 rfl rfl)
theorem dX4_read_103 : decode cX4_read 103 = .ok (.getfield 38, 3) := dk_180 0 38 (dk_at dksX4_read_4 8 rfl rfl)
theorem dX4_read_106 : decode cX4_read 106 = .ok (.iload_n 1, 1) := dk_27 (dk_at dksX4_read_4 11 rfl rfl)
theorem dX4_read_107 : decode cX4_read 107 = .ok (.iaload, 1) := dk_46 (dk_at dksX4_read_4 12 rfl rfl)
theorem dX4_read_108 : decode cX4_read 108 = .ok (.bipush (-4), 2) := dk_16 252 (dk_at dksX4_read_4 13 rfl rfl)
theorem dX4_read_110 : decode cX4_read 110 = .ok (.if_icmp .ne 7, 3) := dk_160 0 7 (dk_at dksX4_read_4 15 rfl rfl)
theorem dX4_read_113 : decode cX4_read 113 = .ok (.iconst 1, 1) := dk_4 (dk_at dksX4_read_4 18 rfl rfl)
theorem dX4_read_114 : decode cX4_read 114 = .ok (.goto 42, 3) := dk_167 0 42 (dk_at dksX4_read_4 19 rfl rfl)
theorem dX4_read_117 : decode cX4_read 117 = .ok (.aload_n 0, 1) := dk_42 (dk_at dksX4_read_4 22 rfl rfl)
theorem dX4_read_118 : decode cX4_read 118 = .ok (.getfield 38, 3) := dk_180 0 38 (dk_at dksX4_read_5 0 rfl rfl)
theorem dX4_read_121 : decode cX4_read 121 = .ok (.iload_n 1, 1) := dk_27 (dk_at dksX4_read_5 3 rfl rfl)
theorem dX4_read_122 : decode cX4_read 122 = .ok (.iaload, 1) := dk_46 (dk_at dksX4_read_5 4 rfl rfl)
theorem dX4_read_123 : decode cX4_read 123 = .ok (.iload_n 2, 1) := dk_28 (dk_at dksX4_read_5 5 rfl rfl)
theorem dX4_read_124 : decode cX4_read 124 = .ok (.if_icmp .eq 7, 3) := dk_159 0 7 (dk_at dksX4_read_5 6 rfl rfl)
theorem dX4_read_127 : decode cX4_read 127 = .ok (.iconst 3, 1) := dk_6 (dk_at dksX4_read_5 9 rfl rfl)
theorem dX4_read_128 : decode cX4_read 128 = .ok (.goto 28, 3) := dk_167 0 28 (dk_at dksX4_read_5 10 rfl rfl)
theorem dX4_read_131 : decode cX4_read 131 = .ok (.lload 9, 2) := dk_22 9 (dk_at dksX4_read_5 13 rfl rfl)
theorem dX4_read_133 : decode cX4_read 133 = .ok (.lconst 0, 1) := dk_9 (dk_at dksX4_read_5 15 rfl rfl)
theorem dX4_read_134 : decode cX4_read 134 = .ok (.lcmp, 1) := dk_148 (dk_at dksX4_read_5 16 rfl rfl)
theorem dX4_read_135 : decode cX4_read 135 = .ok (.ifCond .lt 16, 3) := dk_155 0 16 (dk_at dksX4_read_5 17 rfl rfl)
theorem dX4_read_138 : decode cX4_read 138 = .ok (.lload 9, 2) := dk_22 9 (dk_at dksX4_read_5 20 rfl rfl)
theorem dX4_read_140 : decode cX4_read 140 = .ok (.aload_n 0, 1) := dk_42 (dk_at dksX4_read_5 22 rfl rfl)
theorem dX4_read_141 : decode cX4_read 141 = .ok (.getfield 41, 3) := dk_180 0 41 (dk_at dksX4_read_6 0 rfl rfl)
theorem dX4_read_144 : decode cX4_read 144 = .ok (.iload_n 1, 1) := dk_27 (dk_at dksX4_read_6 3 rfl rfl)
theorem dX4_read_145 : decode cX4_read 145 = .ok (.iaload, 1) := dk_46 (dk_at dksX4_read_6 4 rfl rfl)
theorem dX4_read_146 : decode cX4_read 146 = .ok (.i2l, 1) := dk_133 (dk_at dksX4_read_6 5 rfl rfl)
theorem dX4_read_147 : decode cX4_read 147 = .ok (.lcmp, 1) := dk_148 (dk_at dksX4_read_6 6 rfl rfl)
theorem dX4_read_148 : decode cX4_read 148 = .ok (.ifCond .lt 7, 3) := dk_155 0 7 (dk_at dksX4_read_6 7 rfl rfl)
theorem dX4_read_151 : decode cX4_read 151 = .ok (.iconst 2, 1) := dk_5 (dk_at dksX4_read_6 10 rfl rfl)
theorem dX4_read_152 : decode cX4_read 152 = .ok (.goto 4, 3) := dk_167 0 4 (dk_at dksX4_read_6 11 rfl rfl)
theorem dX4_read_155 : decode cX4_read 155 = .ok (.iconst 0, 1) := dk_3 (dk_at dksX4_read_6 14 rfl rfl)
theorem dX4_read_156 : decode cX4_read 156 = .ok (.istore 5, 2) := dk_54 5 (dk_at dksX4_read_6 15 rfl rfl)
theorem dX4_read_158 : decode cX4_read 158 = .ok (.iinc 8 1, 3) := dk_132 8 1 (dk_at dksX4_read_6 17 rfl rfl)
theorem dX4_read_161 : decode cX4_read 161 = .ok (.goto (-84), 3) := dk_167 255 172 (dk_at dksX4_read_6 20 rfl rfl)
theorem dX4_read_164 : decode cX4_read 164 = .ok (.iload 5, 2) := dk_21 5 (dk_at dksX4_read_7 0 rfl rfl)
theorem dX4_read_166 : decode cX4_read 166 = .ok (.ifCond .ne 78, 3) := dk_154 0 78 (dk_at dksX4_read_7 2 rfl rfl)
theorem dX4_read_169 : decode cX4_read 169 = .ok (.bipush 40, 2) := dk_16 40 (dk_at dksX4_read_7 5 rfl rfl)
theorem dX4_read_171 : decode cX4_read 171 = .ok (.iload_n 1, 1) := dk_27 (dk_at dksX4_read_7 7 rfl rfl)
theorem dX4_read_172 : decode cX4_read 172 = .ok (.imul, 1) := dk_104 (dk_at dksX4_read_7 8 rfl rfl)
theorem dX4_read_173 : decode cX4_read 173 = .ok (.iload_n 3, 1) := dk_29 (dk_at dksX4_read_7 9 rfl rfl)
theorem dX4_read_174 : decode cX4_read 174 = .ok (.iadd, 1) := dk_96 (dk_at dksX4_read_7 10 rfl rfl)
theorem dX4_read_175 : decode cX4_read 175 = .ok (.iconst 2, 1) := dk_5 (dk_at dksX4_read_7 11 rfl rfl)
theorem dX4_read_176 : decode cX4_read 176 = .ok (.iload 7, 2) := dk_21 7 (dk_at dksX4_read_7 12 rfl rfl)
theorem dX4_read_178 : decode cX4_read 178 = .ok (.imul, 1) := dk_104 (dk_at dksX4_read_7 14 rfl rfl)
theorem dX4_read_179 : decode cX4_read 179 = .ok (.iadd, 1) := dk_96 (dk_at dksX4_read_7 15 rfl rfl)
theorem dX4_read_180 : decode cX4_read 180 = .ok (.istore 8, 2) := dk_54 8 (dk_at dksX4_read_7 16 rfl rfl)
theorem dX4_read_182 : decode cX4_read 182 = .ok (.aload_n 0, 1) := dk_42 (dk_at dksX4_read_7 18 rfl rfl)
theorem dX4_read_183 : decode cX4_read 183 = .ok (.aload_n 0, 1) := dk_42 (dk_at dksX4_read_7 19 rfl rfl)
theorem dX4_read_184 : decode cX4_read 184 = .ok (.getfield 44, 3) := dk_180 0 44 (dk_at dksX4_read_7 20 rfl rfl)
theorem dX4_read_187 : decode cX4_read 187 = .ok (.iload 8, 2) := dk_21 8 (dk_at dksX4_read_8 0 rfl rfl)
theorem dX4_read_189 : decode cX4_read 189 = .ok (.iaload, 1) := dk_46 (dk_at dksX4_read_8 2 rfl rfl)
theorem dX4_read_190 : decode cX4_read 190 = .ok (.aload_n 0, 1) := dk_42 (dk_at dksX4_read_8 3 rfl rfl)
theorem dX4_read_191 : decode cX4_read 191 = .ok (.getfield 44, 3) := dk_180 0 44 (dk_at dksX4_read_8 4 rfl rfl)
theorem dX4_read_194 : decode cX4_read 194 = .ok (.iload 8, 2) := dk_21 8 (dk_at dksX4_read_8 7 rfl rfl)
theorem dX4_read_196 : decode cX4_read 196 = .ok (.iconst 1, 1) := dk_4 (dk_at dksX4_read_8 9 rfl rfl)
theorem dX4_read_197 : decode cX4_read 197 = .ok (.iadd, 1) := dk_96 (dk_at dksX4_read_8 10 rfl rfl)
theorem dX4_read_198 : decode cX4_read 198 = .ok (.iaload, 1) := dk_46 (dk_at dksX4_read_8 11 rfl rfl)
theorem dX4_read_199 : decode cX4_read 199 = .ok (.invokevirtual 335, 3) := dk_182 1 79 (dk_at dksX4_read_8 12 rfl rfl)
theorem dX4_read_202 : decode cX4_read 202 = .ok (.ifCond .ge 39, 3) := dk_156 0 39 (dk_at dksX4_read_8 15 rfl rfl)
theorem dX4_read_205 : decode cX4_read 205 = .ok (.iconst 0, 1) := dk_3 (dk_at dksX4_read_8 18 rfl rfl)
theorem dX4_read_206 : decode cX4_read 206 = .ok (.istore 9, 2) := dk_54 9 (dk_at dksX4_read_8 19 rfl rfl)
theorem dX4_read_208 : decode cX4_read 208 = .ok (.iload 9, 2) := dk_21 9 (dk_at dksX4_read_8 21 rfl rfl)
theorem dX4_read_210 : decode cX4_read 210 = .ok (.bipush 75, 2) := dk_16 75 (dk_at dksX4_read_9 0 rfl rfl)
theorem dX4_read_212 : decode cX4_read 212 = .ok (.if_icmp .ge 23, 3) := dk_162 0 23 (dk_at dksX4_read_9 2 rfl rfl)
theorem dX4_read_215 : decode cX4_read 215 = .ok (.aload_n 0, 1) := dk_42 (dk_at dksX4_read_9 5 rfl rfl)
theorem dX4_read_216 : decode cX4_read 216 = .ok (.getfield 7, 3) := dk_180 0 7 (dk_at dksX4_read_9 6 rfl rfl)
theorem dX4_read_219 : decode cX4_read 219 = .ok (.iload 9, 2) := dk_21 9 (dk_at dksX4_read_9 9 rfl rfl)
theorem dX4_read_221 : decode cX4_read 221 = .ok (.aload_n 0, 1) := dk_42 (dk_at dksX4_read_9 11 rfl rfl)
theorem dX4_read_222 : decode cX4_read 222 = .ok (.getfield 47, 3) := dk_180 0 47 (dk_at dksX4_read_9 12 rfl rfl)
theorem dX4_read_225 : decode cX4_read 225 = .ok (.iload 9, 2) := dk_21 9 (dk_at dksX4_read_9 15 rfl rfl)
theorem dX4_read_227 : decode cX4_read 227 = .ok (.iaload, 1) := dk_46 (dk_at dksX4_read_9 17 rfl rfl)
theorem dX4_read_228 : decode cX4_read 228 = .ok (.iastore, 1) := dk_79 (dk_at dksX4_read_9 18 rfl rfl)
theorem dX4_read_229 : decode cX4_read 229 = .ok (.iinc 9 1, 3) := dk_132 9 1 (dk_at dksX4_read_9 19 rfl rfl)
theorem dX4_read_232 : decode cX4_read 232 = .ok (.goto (-24), 3) := dk_167 255 232 (dk_at dksX4_read_10 0 rfl rfl)
theorem dX4_read_235 : decode cX4_read 235 = .ok (.bipush (-20), 2) := dk_16 236 (dk_at dksX4_read_10 3 rfl rfl)
theorem dX4_read_237 : decode cX4_read 237 = .ok (.iload 7, 2) := dk_21 7 (dk_at dksX4_read_10 5 rfl rfl)
theorem dX4_read_239 : decode cX4_read 239 = .ok (.isub, 1) := dk_100 (dk_at dksX4_read_10 7 rfl rfl)
theorem dX4_read_240 : decode cX4_read 240 = .ok (.ireturn, 1) := dk_172 (dk_at dksX4_read_10 8 rfl rfl)
theorem dX4_read_241 : decode cX4_read 241 = .ok (.iinc 6 1, 3) := dk_132 6 1 (dk_at dksX4_read_10 9 rfl rfl)
theorem dX4_read_244 : decode cX4_read 244 = .ok (.iinc 7 1, 3) := dk_132 7 1 (dk_at dksX4_read_10 12 rfl rfl)
theorem dX4_read_247 : decode cX4_read 247 = .ok (.goto (-185), 3) := dk_167 255 71 (dk_at dksX4_read_10 15 rfl rfl)
theorem dX4_read_250 : decode cX4_read 250 = .ok (.aload_n 0, 1) := dk_42 (dk_at dksX4_read_10 18 rfl rfl)
theorem dX4_read_251 : decode cX4_read 251 = .ok (.iload 5, 2) := dk_21 5 (dk_at dksX4_read_10 19 rfl rfl)
theorem dX4_read_253 : decode cX4_read 253 = .ok (.putfield 338, 3) := dk_181 1 82 (dk_at dksX4_read_10 21 rfl rfl)
theorem dX4_read_256 : decode cX4_read 256 = .ok (.iload 6, 2) := dk_21 6 (dk_at dksX4_read_11 0 rfl rfl)
theorem dX4_read_258 : decode cX4_read 258 = .ok (.ireturn, 1) := dk_172 (dk_at dksX4_read_11 2 rfl rfl)
abbrev cX4_torn : ByteArray := prog_13_method_100_code
def yX4_torn : MethodName := ⟨RX4, "torn", "()I"⟩
theorem dX4_torn_0 : decode cX4_torn 0 = .ok (.aload_n 0, 1) := by decide +kernel
theorem dX4_torn_1 : decode cX4_torn 1 = .ok (.getfield 338, 3) := by decide +kernel
theorem dX4_torn_4 : decode cX4_torn 4 = .ok (.ireturn, 1) := by decide +kernel
abbrev cX4_count : ByteArray := prog_13_method_101_code
def yX4_count : MethodName := ⟨RX4, "count", "(I)I"⟩
def dkwX4_count_4 : List UInt8 := [180, 0, 38, 3, 46, 16, 252, 160, 0, 8, 16, 252, 167, 0, 9, 42, 180, 0, 41, 3, 46, 172, 2, 172]
abbrev dktX4_count_4 : List UInt8 := dkwX4_count_4 ++ []
def dkwX4_count_3 : List UInt8 := [3, 51, 184, 0, 154, 42, 180, 0, 16, 4, 51, 184, 0, 154, 96, 172, 42, 180, 0, 84, 172, 42]
abbrev dktX4_count_3 : List UInt8 := dkwX4_count_3 ++ dktX4_count_4
def dkwX4_count_2 : List UInt8 := [42, 6, 182, 1, 67, 172, 42, 4, 182, 1, 67, 172, 42, 180, 0, 7, 16, 56, 46, 172, 42, 180, 0, 16]
abbrev dktX4_count_2 : List UInt8 := dkwX4_count_2 ++ dktX4_count_3
def dkwX4_count_1 : List UInt8 := [170, 0, 0, 0, 0, 0, 107, 0, 0, 0, 0, 0, 0, 0, 5, 0, 0, 0, 39, 0, 0, 0, 45, 0, 0, 0, 51, 0, 0, 0, 59, 0, 0, 0, 79, 0, 0, 0, 84]
abbrev dktX4_count_1 : List UInt8 := dkwX4_count_1 ++ dktX4_count_2
def dkwX4_count_0 : List UInt8 := [42, 182, 0, 209, 27]
abbrev dktX4_count_0 : List UInt8 := dkwX4_count_0 ++ dktX4_count_1
theorem dksX4_count_0 : cX4_count.data.toList.drop 0 = dktX4_count_0 := by decide +kernel
theorem dksX4_count_1 : cX4_count.data.toList.drop 5 = dktX4_count_1 := dk_seg dksX4_count_0 5 rfl rfl
theorem dksX4_count_2 : cX4_count.data.toList.drop 44 = dktX4_count_2 := dk_seg dksX4_count_1 39 rfl rfl
theorem dksX4_count_3 : cX4_count.data.toList.drop 68 = dktX4_count_3 := dk_seg dksX4_count_2 24 rfl rfl
theorem dksX4_count_4 : cX4_count.data.toList.drop 90 = dktX4_count_4 := dk_seg dksX4_count_3 22 rfl rfl
theorem dX4_count_0 : decode cX4_count 0 = .ok (.aload_n 0, 1) := dk_42 (dk_at dksX4_count_0 0 rfl rfl)
theorem dX4_count_1 : decode cX4_count 1 = .ok (.invokevirtual 209, 3) := dk_182 0 209 (dk_at dksX4_count_0 1 rfl rfl)
theorem dX4_count_4 : decode cX4_count 4 = .ok (.iload_n 1, 1) := dk_27 (dk_at dksX4_count_0 4 rfl rfl)
theorem dX4_count_5 : decode cX4_count 5 = .ok (.tableswitch 107 0 5 #[39, 45, 51, 59, 79, 84], 39) := by decide +kernel
theorem dX4_count_44 : decode cX4_count 44 = .ok (.aload_n 0, 1) := dk_42 (dk_at dksX4_count_2 0 rfl rfl)
theorem dX4_count_45 : decode cX4_count 45 = .ok (.iconst 3, 1) := dk_6 (dk_at dksX4_count_2 1 rfl rfl)
theorem dX4_count_46 : decode cX4_count 46 = .ok (.invokevirtual 323, 3) := dk_182 1 67 (dk_at dksX4_count_2 2 rfl rfl)
theorem dX4_count_49 : decode cX4_count 49 = .ok (.ireturn, 1) := dk_172 (dk_at dksX4_count_2 5 rfl rfl)
theorem dX4_count_50 : decode cX4_count 50 = .ok (.aload_n 0, 1) := dk_42 (dk_at dksX4_count_2 6 rfl rfl)
theorem dX4_count_51 : decode cX4_count 51 = .ok (.iconst 1, 1) := dk_4 (dk_at dksX4_count_2 7 rfl rfl)
theorem dX4_count_52 : decode cX4_count 52 = .ok (.invokevirtual 323, 3) := dk_182 1 67 (dk_at dksX4_count_2 8 rfl rfl)
theorem dX4_count_55 : decode cX4_count 55 = .ok (.ireturn, 1) := dk_172 (dk_at dksX4_count_2 11 rfl rfl)
theorem dX4_count_56 : decode cX4_count 56 = .ok (.aload_n 0, 1) := dk_42 (dk_at dksX4_count_2 12 rfl rfl)
theorem dX4_count_57 : decode cX4_count 57 = .ok (.getfield 7, 3) := dk_180 0 7 (dk_at dksX4_count_2 13 rfl rfl)
theorem dX4_count_60 : decode cX4_count 60 = .ok (.bipush 56, 2) := dk_16 56 (dk_at dksX4_count_2 16 rfl rfl)
theorem dX4_count_62 : decode cX4_count 62 = .ok (.iaload, 1) := dk_46 (dk_at dksX4_count_2 18 rfl rfl)
theorem dX4_count_63 : decode cX4_count 63 = .ok (.ireturn, 1) := dk_172 (dk_at dksX4_count_2 19 rfl rfl)
theorem dX4_count_64 : decode cX4_count 64 = .ok (.aload_n 0, 1) := dk_42 (dk_at dksX4_count_2 20 rfl rfl)
theorem dX4_count_65 : decode cX4_count 65 = .ok (.getfield 16, 3) := dk_180 0 16 (dk_at dksX4_count_2 21 rfl rfl)
theorem dX4_count_68 : decode cX4_count 68 = .ok (.iconst 0, 1) := dk_3 (dk_at dksX4_count_3 0 rfl rfl)
theorem dX4_count_69 : decode cX4_count 69 = .ok (.baload, 1) := dk_51 (dk_at dksX4_count_3 1 rfl rfl)
theorem dX4_count_70 : decode cX4_count 70 = .ok (.invokestatic 154, 3) := dk_184 0 154 (dk_at dksX4_count_3 2 rfl rfl)
theorem dX4_count_73 : decode cX4_count 73 = .ok (.aload_n 0, 1) := dk_42 (dk_at dksX4_count_3 5 rfl rfl)
theorem dX4_count_74 : decode cX4_count 74 = .ok (.getfield 16, 3) := dk_180 0 16 (dk_at dksX4_count_3 6 rfl rfl)
theorem dX4_count_77 : decode cX4_count 77 = .ok (.iconst 1, 1) := dk_4 (dk_at dksX4_count_3 9 rfl rfl)
theorem dX4_count_78 : decode cX4_count 78 = .ok (.baload, 1) := dk_51 (dk_at dksX4_count_3 10 rfl rfl)
theorem dX4_count_79 : decode cX4_count 79 = .ok (.invokestatic 154, 3) := dk_184 0 154 (dk_at dksX4_count_3 11 rfl rfl)
theorem dX4_count_82 : decode cX4_count 82 = .ok (.iadd, 1) := dk_96 (dk_at dksX4_count_3 14 rfl rfl)
theorem dX4_count_83 : decode cX4_count 83 = .ok (.ireturn, 1) := dk_172 (dk_at dksX4_count_3 15 rfl rfl)
theorem dX4_count_84 : decode cX4_count 84 = .ok (.aload_n 0, 1) := dk_42 (dk_at dksX4_count_3 16 rfl rfl)
theorem dX4_count_85 : decode cX4_count 85 = .ok (.getfield 84, 3) := dk_180 0 84 (dk_at dksX4_count_3 17 rfl rfl)
theorem dX4_count_88 : decode cX4_count 88 = .ok (.ireturn, 1) := dk_172 (dk_at dksX4_count_3 20 rfl rfl)
theorem dX4_count_89 : decode cX4_count 89 = .ok (.aload_n 0, 1) := dk_42 (dk_at dksX4_count_3 21 rfl rfl)
theorem dX4_count_90 : decode cX4_count 90 = .ok (.getfield 38, 3) := dk_180 0 38 (dk_at dksX4_count_4 0 rfl rfl)
theorem dX4_count_93 : decode cX4_count 93 = .ok (.iconst 0, 1) := dk_3 (dk_at dksX4_count_4 3 rfl rfl)
theorem dX4_count_94 : decode cX4_count 94 = .ok (.iaload, 1) := dk_46 (dk_at dksX4_count_4 4 rfl rfl)
theorem dX4_count_95 : decode cX4_count 95 = .ok (.bipush (-4), 2) := dk_16 252 (dk_at dksX4_count_4 5 rfl rfl)
theorem dX4_count_97 : decode cX4_count 97 = .ok (.if_icmp .ne 8, 3) := dk_160 0 8 (dk_at dksX4_count_4 7 rfl rfl)
theorem dX4_count_100 : decode cX4_count 100 = .ok (.bipush (-4), 2) := dk_16 252 (dk_at dksX4_count_4 10 rfl rfl)
theorem dX4_count_102 : decode cX4_count 102 = .ok (.goto 9, 3) := dk_167 0 9 (dk_at dksX4_count_4 12 rfl rfl)
theorem dX4_count_105 : decode cX4_count 105 = .ok (.aload_n 0, 1) := dk_42 (dk_at dksX4_count_4 15 rfl rfl)
theorem dX4_count_106 : decode cX4_count 106 = .ok (.getfield 41, 3) := dk_180 0 41 (dk_at dksX4_count_4 16 rfl rfl)
theorem dX4_count_109 : decode cX4_count 109 = .ok (.iconst 0, 1) := dk_3 (dk_at dksX4_count_4 19 rfl rfl)
theorem dX4_count_110 : decode cX4_count 110 = .ok (.iaload, 1) := dk_46 (dk_at dksX4_count_4 20 rfl rfl)
theorem dX4_count_111 : decode cX4_count 111 = .ok (.ireturn, 1) := dk_172 (dk_at dksX4_count_4 21 rfl rfl)
theorem dX4_count_112 : decode cX4_count 112 = .ok (.iconst (-1), 1) := dk_2 (dk_at dksX4_count_4 22 rfl rfl)
theorem dX4_count_113 : decode cX4_count 113 = .ok (.ireturn, 1) := dk_172 (dk_at dksX4_count_4 23 rfl rfl)
theorem q89 : (Jvm.Cond.initialized "EchoPensModel") ∈ lw_all := lw_g (lw_at lw_m1 5 rfl) rfl
theorem q1126 : (Jvm.Cond.instantiable "EchoPensModel" (32 : Nat)) ∈ lw_all := lw_g (lw_at lw_m5 82 rfl) rfl
theorem q1128 : (Jvm.Cond.instanceMethod ({ cls := "EchoPensModel", name := "<init>", desc := "()V" } : Jvm.MethodName)) ∈ lw_all := lw_g (lw_at lw_m5 84 rfl) rfl
theorem q1129 : (Jvm.Cond.code ({ cls := "EchoPensModel", name := "<init>", desc := "()V" } : Jvm.MethodName) prog_13_method_1_code (2 : Nat) (Option.none : Option Jvm.ClassFile.FieldType)) ∈ lw_all := lw_g (lw_at lw_m5 85 rfl) rfl
theorem q1130 : (Jvm.Cond.methodLink "EchoPensModel" (1 : Nat) ({ cls := "java/lang/Object", name := "<init>", desc := "()V" } : Jvm.MethodName)) ∈ lw_all := lw_g (lw_at lw_m5 86 rfl) rfl
theorem q1131 : (Jvm.Cond.methodLink "EchoPensModel" (50 : Nat) ({ cls := "EchoPensModel", name := "firstDraft", desc := "()V" } : Jvm.MethodName)) ∈ lw_all := lw_g (lw_at lw_m5 87 rfl) rfl
theorem q1132 : (Jvm.Cond.privateMethod ({ cls := "EchoPensModel", name := "firstDraft", desc := "()V" } : Jvm.MethodName)) ∈ lw_tbl := lw_at lw_m5 88 rfl
theorem q1133 : (Jvm.Cond.instanceMethod ({ cls := "EchoPensModel", name := "firstDraft", desc := "()V" } : Jvm.MethodName)) ∈ lw_all := lw_g (lw_at lw_m5 89 rfl) rfl
theorem q1134 : (Jvm.Cond.code ({ cls := "EchoPensModel", name := "firstDraft", desc := "()V" } : Jvm.MethodName) prog_13_method_5_code (2 : Nat) (Option.none : Option Jvm.ClassFile.FieldType)) ∈ lw_all := lw_g (lw_at lw_m5 90 rfl) rfl
theorem q1135 : (Jvm.Cond.methodLink "EchoPensModel" (53 : Nat) ({ cls := "EchoPensModel", name := "keepDraft", desc := "()V" } : Jvm.MethodName)) ∈ lw_all := lw_g (lw_at lw_m5 91 rfl) rfl
theorem q1136 : (Jvm.Cond.privateMethod ({ cls := "EchoPensModel", name := "keepDraft", desc := "()V" } : Jvm.MethodName)) ∈ lw_tbl := lw_at lw_m5 92 rfl
theorem q1137 : (Jvm.Cond.instanceMethod ({ cls := "EchoPensModel", name := "keepDraft", desc := "()V" } : Jvm.MethodName)) ∈ lw_all := lw_g (lw_at lw_m5 93 rfl) rfl
theorem q1138 : (Jvm.Cond.code ({ cls := "EchoPensModel", name := "keepDraft", desc := "()V" } : Jvm.MethodName) prog_13_method_6_code (2 : Nat) (Option.none : Option Jvm.ClassFile.FieldType)) ∈ lw_all := lw_g (lw_at lw_m5 94 rfl) rfl
theorem q1139 : (Jvm.Cond.fieldLink "EchoPensModel" (7 : Nat) "EchoPensModel" "st" "[I") ∈ lw_all := lw_g (lw_at lw_m5 95 rfl) rfl
theorem q1140 : (Jvm.Cond.fieldLink "EchoPensModel" (13 : Nat) "EchoPensModel" "at" "[I") ∈ lw_all := lw_g (lw_at lw_m5 96 rfl) rfl
theorem q1141 : (Jvm.Cond.fieldLink "EchoPensModel" (16 : Nat) "EchoPensModel" "isKept" "[Z") ∈ lw_all := lw_g (lw_at lw_m5 97 rfl) rfl
theorem q1142 : (Jvm.Cond.fieldLink "EchoPensModel" (69 : Nat) "EchoPensModel" "pens" "I") ∈ lw_all := lw_g (lw_at lw_m5 98 rfl) rfl
theorem q1143 : (Jvm.Cond.fieldLink "EchoPensModel" (72 : Nat) "EchoPensModel" "echoes" "I") ∈ lw_all := lw_g (lw_at lw_m5 99 rfl) rfl
theorem q1144 : (Jvm.Cond.fieldLink "EchoPensModel" (75 : Nat) "EchoPensModel" "orders" "I") ∈ lw_all := lw_g (lw_at lw_m5 100 rfl) rfl
theorem q1145 : (Jvm.Cond.fieldLink "EchoPensModel" (20 : Nat) "EchoPensModel" "terms" "[I") ∈ lw_all := lw_g (lw_at lw_m5 101 rfl) rfl
theorem q1146 : (Jvm.Cond.fieldLink "EchoPensModel" (23 : Nat) "EchoPensModel" "draft" "[I") ∈ lw_all := lw_g (lw_at lw_m5 102 rfl) rfl
theorem q1147 : (Jvm.Cond.fieldLink "EchoPensModel" (56 : Nat) "EchoPensModel" "dPens" "I") ∈ lw_all := lw_g (lw_at lw_m5 103 rfl) rfl
theorem q1148 : (Jvm.Cond.fieldLink "EchoPensModel" (60 : Nat) "EchoPensModel" "dEchoes" "I") ∈ lw_all := lw_g (lw_at lw_m5 104 rfl) rfl
theorem q1149 : (Jvm.Cond.fieldLink "EchoPensModel" (63 : Nat) "EchoPensModel" "dOrders" "I") ∈ lw_all := lw_g (lw_at lw_m5 105 rfl) rfl
theorem q1150 : (Jvm.Cond.fieldLink "EchoPensModel" (26 : Nat) "EchoPensModel" "dOrder" "[I") ∈ lw_all := lw_g (lw_at lw_m5 106 rfl) rfl
theorem q1151 : (Jvm.Cond.fieldLink "EchoPensModel" (66 : Nat) "EchoPensModel" "highest" "I") ∈ lw_all := lw_g (lw_at lw_m5 107 rfl) rfl
theorem q1152 : (Jvm.Cond.fieldLink "EchoPensModel" (29 : Nat) "EchoPensModel" "tape" "[I") ∈ lw_all := lw_g (lw_at lw_m5 108 rfl) rfl
theorem q1153 : (Jvm.Cond.fieldLink "EchoPensModel" (84 : Nat) "EchoPensModel" "taped" "I") ∈ lw_all := lw_g (lw_at lw_m5 109 rfl) rfl
theorem q1154 : (Jvm.Cond.fieldLink "EchoPensModel" (96 : Nat) "EchoPensModel" "pos" "I") ∈ lw_all := lw_g (lw_at lw_m5 110 rfl) rfl
theorem q1155 : (Jvm.Cond.fieldLink "EchoPensModel" (90 : Nat) "EchoPensModel" "from" "I") ∈ lw_all := lw_g (lw_at lw_m5 111 rfl) rfl
theorem q1156 : (Jvm.Cond.fieldLink "EchoPensModel" (111 : Nat) "EchoPensModel" "sort" "I") ∈ lw_all := lw_g (lw_at lw_m5 112 rfl) rfl
theorem q1157 : (Jvm.Cond.fieldLink "EchoPensModel" (122 : Nat) "EchoPensModel" "value" "I") ∈ lw_all := lw_g (lw_at lw_m5 113 rfl) rfl
theorem q1158 : (Jvm.Cond.fieldLink "EchoPensModel" (87 : Nat) "EchoPensModel" "fault" "I") ∈ lw_all := lw_g (lw_at lw_m5 114 rfl) rfl
theorem q1159 : (Jvm.Cond.fieldLink "EchoPensModel" (93 : Nat) "EchoPensModel" "wrongAt" "I") ∈ lw_all := lw_g (lw_at lw_m5 115 rfl) rfl
theorem q1160 : (Jvm.Cond.fieldLink "EchoPensModel" (32 : Nat) "EchoPensModel" "meeting" "[I") ∈ lw_all := lw_g (lw_at lw_m5 116 rfl) rfl
theorem q1161 : (Jvm.Cond.fieldLink "EchoPensModel" (272 : Nat) "EchoPensModel" "saleNumber" "I") ∈ lw_all := lw_g (lw_at lw_m5 117 rfl) rfl
theorem q1162 : (Jvm.Cond.fieldLink "EchoPensModel" (294 : Nat) "EchoPensModel" "keptSum" "J") ∈ lw_all := lw_g (lw_at lw_m5 118 rfl) rfl
theorem q1163 : (Jvm.Cond.fieldLink "EchoPensModel" (298 : Nat) "EchoPensModel" "keptLetters" "J") ∈ lw_all := lw_g (lw_at lw_m5 119 rfl) rfl
theorem q1164 : (Jvm.Cond.fieldLink "EchoPensModel" (301 : Nat) "EchoPensModel" "allWays" "J") ∈ lw_all := lw_g (lw_at lw_m5 120 rfl) rfl
theorem q1165 : (Jvm.Cond.fieldLink "EchoPensModel" (35 : Nat) "EchoPensModel" "ways" "[I") ∈ lw_all := lw_g (lw_at lw_m5 121 rfl) rfl
theorem q1166 : (Jvm.Cond.fieldLink "EchoPensModel" (38 : Nat) "EchoPensModel" "lanes" "[I") ∈ lw_all := lw_g (lw_at lw_m5 122 rfl) rfl
theorem q1167 : (Jvm.Cond.fieldLink "EchoPensModel" (41 : Nat) "EchoPensModel" "sizes" "[I") ∈ lw_all := lw_g (lw_at lw_m5 123 rfl) rfl
theorem q1168 : (Jvm.Cond.fieldLink "EchoPensModel" (44 : Nat) "EchoPensModel" "cells" "[I") ∈ lw_all := lw_g (lw_at lw_m5 124 rfl) rfl
theorem q1169 : (Jvm.Cond.fieldLink "EchoPensModel" (338 : Nat) "EchoPensModel" "torn" "I") ∈ lw_all := lw_g (lw_at lw_m5 125 rfl) rfl
theorem q1170 : (Jvm.Cond.fieldLink "EchoPensModel" (47 : Nat) "EchoPensModel" "had" "[I") ∈ lw_all := lw_g (lw_at lw_m5 126 rfl) rfl
theorem q1171 : (Jvm.Cond.laysFinal "EchoPensModel" "EchoPensModel" "st" "[I") ∈ lw_all := lw_g (lw_at lw_m5 127 rfl) rfl
theorem q1172 : (Jvm.Cond.soleField "EchoPensModel" "st") ∈ lw_all := lw_g (lw_at lw_m5 128 rfl) rfl
theorem q1173 : (Jvm.Cond.laysFinal "EchoPensModel" "EchoPensModel" "at" "[I") ∈ lw_all := lw_g (lw_at lw_m5 129 rfl) rfl
theorem q1174 : (Jvm.Cond.soleField "EchoPensModel" "at") ∈ lw_all := lw_g (lw_at lw_m5 130 rfl) rfl
theorem q1175 : (Jvm.Cond.laysFinal "EchoPensModel" "EchoPensModel" "isKept" "[Z") ∈ lw_all := lw_g (lw_at lw_m5 131 rfl) rfl
theorem q1176 : (Jvm.Cond.soleField "EchoPensModel" "isKept") ∈ lw_all := lw_g (lw_at lw_m5 132 rfl) rfl
theorem q1177 : (Jvm.Cond.lays "EchoPensModel" "EchoPensModel" "pens" "I") ∈ lw_all := lw_g (lw_at lw_m5 133 rfl) rfl
theorem q1178 : (Jvm.Cond.soleField "EchoPensModel" "pens") ∈ lw_all := lw_g (lw_at lw_m5 134 rfl) rfl
theorem q1179 : (Jvm.Cond.lays "EchoPensModel" "EchoPensModel" "echoes" "I") ∈ lw_all := lw_g (lw_at lw_m5 135 rfl) rfl
theorem q1180 : (Jvm.Cond.soleField "EchoPensModel" "echoes") ∈ lw_all := lw_g (lw_at lw_m5 136 rfl) rfl
theorem q1181 : (Jvm.Cond.lays "EchoPensModel" "EchoPensModel" "orders" "I") ∈ lw_all := lw_g (lw_at lw_m5 137 rfl) rfl
theorem q1182 : (Jvm.Cond.soleField "EchoPensModel" "orders") ∈ lw_all := lw_g (lw_at lw_m5 138 rfl) rfl
theorem q1183 : (Jvm.Cond.laysFinal "EchoPensModel" "EchoPensModel" "terms" "[I") ∈ lw_all := lw_g (lw_at lw_m5 139 rfl) rfl
theorem q1184 : (Jvm.Cond.soleField "EchoPensModel" "terms") ∈ lw_all := lw_g (lw_at lw_m5 140 rfl) rfl
theorem q1185 : (Jvm.Cond.laysFinal "EchoPensModel" "EchoPensModel" "draft" "[I") ∈ lw_all := lw_g (lw_at lw_m5 141 rfl) rfl
theorem q1186 : (Jvm.Cond.soleField "EchoPensModel" "draft") ∈ lw_all := lw_g (lw_at lw_m5 142 rfl) rfl
theorem q1187 : (Jvm.Cond.lays "EchoPensModel" "EchoPensModel" "dPens" "I") ∈ lw_all := lw_g (lw_at lw_m5 143 rfl) rfl
theorem q1188 : (Jvm.Cond.soleField "EchoPensModel" "dPens") ∈ lw_all := lw_g (lw_at lw_m5 144 rfl) rfl
theorem q1189 : (Jvm.Cond.lays "EchoPensModel" "EchoPensModel" "dEchoes" "I") ∈ lw_all := lw_g (lw_at lw_m5 145 rfl) rfl
theorem q1190 : (Jvm.Cond.soleField "EchoPensModel" "dEchoes") ∈ lw_all := lw_g (lw_at lw_m5 146 rfl) rfl
theorem q1191 : (Jvm.Cond.lays "EchoPensModel" "EchoPensModel" "dOrders" "I") ∈ lw_all := lw_g (lw_at lw_m5 147 rfl) rfl
theorem q1192 : (Jvm.Cond.soleField "EchoPensModel" "dOrders") ∈ lw_all := lw_g (lw_at lw_m5 148 rfl) rfl
theorem q1193 : (Jvm.Cond.laysFinal "EchoPensModel" "EchoPensModel" "dOrder" "[I") ∈ lw_all := lw_g (lw_at lw_m5 149 rfl) rfl
theorem q1194 : (Jvm.Cond.soleField "EchoPensModel" "dOrder") ∈ lw_all := lw_g (lw_at lw_m5 150 rfl) rfl
theorem q1195 : (Jvm.Cond.lays "EchoPensModel" "EchoPensModel" "highest" "I") ∈ lw_all := lw_g (lw_at lw_m5 151 rfl) rfl
theorem q1196 : (Jvm.Cond.soleField "EchoPensModel" "highest") ∈ lw_all := lw_g (lw_at lw_m5 152 rfl) rfl
theorem q1197 : (Jvm.Cond.laysFinal "EchoPensModel" "EchoPensModel" "tape" "[I") ∈ lw_all := lw_g (lw_at lw_m5 153 rfl) rfl
theorem q1198 : (Jvm.Cond.soleField "EchoPensModel" "tape") ∈ lw_all := lw_g (lw_at lw_m5 154 rfl) rfl
theorem q1199 : (Jvm.Cond.lays "EchoPensModel" "EchoPensModel" "taped" "I") ∈ lw_all := lw_g (lw_at lw_m5 155 rfl) rfl
theorem q1200 : (Jvm.Cond.soleField "EchoPensModel" "taped") ∈ lw_all := lw_g (lw_at lw_m5 156 rfl) rfl
theorem q1201 : (Jvm.Cond.lays "EchoPensModel" "EchoPensModel" "pos" "I") ∈ lw_all := lw_g (lw_at lw_m5 157 rfl) rfl
theorem q1202 : (Jvm.Cond.soleField "EchoPensModel" "pos") ∈ lw_all := lw_g (lw_at lw_m5 158 rfl) rfl
theorem q1203 : (Jvm.Cond.lays "EchoPensModel" "EchoPensModel" "from" "I") ∈ lw_all := lw_g (lw_at lw_m5 159 rfl) rfl
theorem q1204 : (Jvm.Cond.soleField "EchoPensModel" "from") ∈ lw_all := lw_g (lw_at lw_m5 160 rfl) rfl
theorem q1205 : (Jvm.Cond.lays "EchoPensModel" "EchoPensModel" "sort" "I") ∈ lw_all := lw_g (lw_at lw_m5 161 rfl) rfl
theorem q1206 : (Jvm.Cond.soleField "EchoPensModel" "sort") ∈ lw_all := lw_g (lw_at lw_m5 162 rfl) rfl
theorem q1207 : (Jvm.Cond.lays "EchoPensModel" "EchoPensModel" "value" "I") ∈ lw_all := lw_g (lw_at lw_m5 163 rfl) rfl
theorem q1208 : (Jvm.Cond.soleField "EchoPensModel" "value") ∈ lw_all := lw_g (lw_at lw_m5 164 rfl) rfl
theorem q1209 : (Jvm.Cond.lays "EchoPensModel" "EchoPensModel" "fault" "I") ∈ lw_all := lw_g (lw_at lw_m5 165 rfl) rfl
theorem q1210 : (Jvm.Cond.soleField "EchoPensModel" "fault") ∈ lw_all := lw_g (lw_at lw_m5 166 rfl) rfl
theorem q1211 : (Jvm.Cond.lays "EchoPensModel" "EchoPensModel" "wrongAt" "I") ∈ lw_all := lw_g (lw_at lw_m5 167 rfl) rfl
theorem q1212 : (Jvm.Cond.soleField "EchoPensModel" "wrongAt") ∈ lw_all := lw_g (lw_at lw_m5 168 rfl) rfl
theorem q1213 : (Jvm.Cond.laysFinal "EchoPensModel" "EchoPensModel" "meeting" "[I") ∈ lw_all := lw_g (lw_at lw_m5 169 rfl) rfl
theorem q1214 : (Jvm.Cond.soleField "EchoPensModel" "meeting") ∈ lw_all := lw_g (lw_at lw_m5 170 rfl) rfl
theorem q1215 : (Jvm.Cond.lays "EchoPensModel" "EchoPensModel" "saleNumber" "I") ∈ lw_all := lw_g (lw_at lw_m5 171 rfl) rfl
theorem q1216 : (Jvm.Cond.soleField "EchoPensModel" "saleNumber") ∈ lw_all := lw_g (lw_at lw_m5 172 rfl) rfl
theorem q1217 : (Jvm.Cond.lays "EchoPensModel" "EchoPensModel" "keptSum" "J") ∈ lw_all := lw_g (lw_at lw_m5 173 rfl) rfl
theorem q1218 : (Jvm.Cond.soleField "EchoPensModel" "keptSum") ∈ lw_all := lw_g (lw_at lw_m5 174 rfl) rfl
theorem q1219 : (Jvm.Cond.lays "EchoPensModel" "EchoPensModel" "keptLetters" "J") ∈ lw_all := lw_g (lw_at lw_m5 175 rfl) rfl
theorem q1220 : (Jvm.Cond.soleField "EchoPensModel" "keptLetters") ∈ lw_all := lw_g (lw_at lw_m5 176 rfl) rfl
theorem q1221 : (Jvm.Cond.lays "EchoPensModel" "EchoPensModel" "allWays" "J") ∈ lw_all := lw_g (lw_at lw_m5 177 rfl) rfl
theorem q1222 : (Jvm.Cond.soleField "EchoPensModel" "allWays") ∈ lw_all := lw_g (lw_at lw_m5 178 rfl) rfl
theorem q1223 : (Jvm.Cond.laysFinal "EchoPensModel" "EchoPensModel" "ways" "[I") ∈ lw_all := lw_g (lw_at lw_m5 179 rfl) rfl
theorem q1224 : (Jvm.Cond.soleField "EchoPensModel" "ways") ∈ lw_all := lw_g (lw_at lw_m5 180 rfl) rfl
theorem q1225 : (Jvm.Cond.laysFinal "EchoPensModel" "EchoPensModel" "lanes" "[I") ∈ lw_all := lw_g (lw_at lw_m5 181 rfl) rfl
theorem q1226 : (Jvm.Cond.soleField "EchoPensModel" "lanes") ∈ lw_all := lw_g (lw_at lw_m5 182 rfl) rfl
theorem q1227 : (Jvm.Cond.laysFinal "EchoPensModel" "EchoPensModel" "sizes" "[I") ∈ lw_all := lw_g (lw_at lw_m5 183 rfl) rfl
theorem q1228 : (Jvm.Cond.soleField "EchoPensModel" "sizes") ∈ lw_all := lw_g (lw_at lw_m5 184 rfl) rfl
theorem q1229 : (Jvm.Cond.laysFinal "EchoPensModel" "EchoPensModel" "cells" "[I") ∈ lw_all := lw_g (lw_at lw_m5 185 rfl) rfl
theorem q1230 : (Jvm.Cond.soleField "EchoPensModel" "cells") ∈ lw_all := lw_g (lw_at lw_m5 186 rfl) rfl
theorem q1231 : (Jvm.Cond.lays "EchoPensModel" "EchoPensModel" "torn" "I") ∈ lw_all := lw_g (lw_at lw_m5 187 rfl) rfl
theorem q1232 : (Jvm.Cond.soleField "EchoPensModel" "torn") ∈ lw_all := lw_g (lw_at lw_m5 188 rfl) rfl
theorem q1233 : (Jvm.Cond.laysFinal "EchoPensModel" "EchoPensModel" "had" "[I") ∈ lw_all := lw_g (lw_at lw_m5 189 rfl) rfl
theorem q1234 : (Jvm.Cond.soleField "EchoPensModel" "had") ∈ lw_all := lw_g (lw_at lw_m5 190 rfl) rfl
theorem q1235 : (Jvm.Cond.superclass "EchoPensModel" "java/lang/Object") ∈ lw_all := lw_g (lw_at lw_m5 191 rfl) rfl
theorem q1238 : (Jvm.Cond.instanceMethod ({ cls := "EchoPensModel", name := "feed", desc := "(I)I" } : Jvm.MethodName)) ∈ lw_all := lw_g (lw_at lw_m5 194 rfl) rfl
theorem q1239 : (Jvm.Cond.selects "EchoPensModel" ({ cls := "EchoPensModel", name := "feed", desc := "(I)I" } : Jvm.MethodName) ({ cls := "EchoPensModel", name := "feed", desc := "(I)I" } : Jvm.MethodName)) ∈ lw_all := lw_g (lw_at lw_m5 195 rfl) rfl
theorem q1240 : (Jvm.Cond.code ({ cls := "EchoPensModel", name := "feed", desc := "(I)I" } : Jvm.MethodName) prog_13_method_7_code (2 : Nat) (Option.some Jvm.ClassFile.FieldType.int)) ∈ lw_all := lw_g (lw_at lw_m5 196 rfl) rfl
theorem q1241 : (Jvm.Cond.constantLong "EchoPensModel" (78 : Nat) (127 : Int64)) ∈ lw_all := lw_g (lw_at lw_m5 197 rfl) rfl
theorem q1242 : (Jvm.Cond.methodLink "EchoPensModel" (80 : Nat) ({ cls := "EchoPensModel", name := "in", desc := "(JJJ)Z" } : Jvm.MethodName)) ∈ lw_all := lw_g (lw_at lw_m5 198 rfl) rfl
theorem q1243 : (Jvm.Cond.static ({ cls := "EchoPensModel", name := "in", desc := "(JJJ)Z" } : Jvm.MethodName)) ∈ lw_all := lw_g (lw_at lw_m5 199 rfl) rfl
theorem q1244 : (Jvm.Cond.code ({ cls := "EchoPensModel", name := "in", desc := "(JJJ)Z" } : Jvm.MethodName) prog_13_method_3_code (6 : Nat) (Option.some Jvm.ClassFile.FieldType.boolean)) ∈ lw_all := lw_g (lw_at lw_m5 200 rfl) rfl
theorem q1246 : (Jvm.Cond.instanceMethod ({ cls := "EchoPensModel", name := "end", desc := "(I)I" } : Jvm.MethodName)) ∈ lw_all := lw_g (lw_at lw_m5 202 rfl) rfl
theorem q1247 : (Jvm.Cond.selects "EchoPensModel" ({ cls := "EchoPensModel", name := "end", desc := "(I)I" } : Jvm.MethodName) ({ cls := "EchoPensModel", name := "end", desc := "(I)I" } : Jvm.MethodName)) ∈ lw_all := lw_g (lw_at lw_m5 203 rfl) rfl
theorem q1248 : (Jvm.Cond.code ({ cls := "EchoPensModel", name := "end", desc := "(I)I" } : Jvm.MethodName) prog_13_method_8_code (3 : Nat) (Option.some Jvm.ClassFile.FieldType.int)) ∈ lw_all := lw_g (lw_at lw_m5 204 rfl) rfl
theorem q1250 : (Jvm.Cond.instanceMethod ({ cls := "EchoPensModel", name := "text", desc := "()I" } : Jvm.MethodName)) ∈ lw_all := lw_g (lw_at lw_m5 206 rfl) rfl
theorem q1251 : (Jvm.Cond.selects "EchoPensModel" ({ cls := "EchoPensModel", name := "text", desc := "()I" } : Jvm.MethodName) ({ cls := "EchoPensModel", name := "text", desc := "()I" } : Jvm.MethodName)) ∈ lw_all := lw_g (lw_at lw_m5 207 rfl) rfl
theorem q1252 : (Jvm.Cond.code ({ cls := "EchoPensModel", name := "text", desc := "()I" } : Jvm.MethodName) prog_13_method_22_code (2 : Nat) (Option.some Jvm.ClassFile.FieldType.int)) ∈ lw_all := lw_g (lw_at lw_m5 208 rfl) rfl
theorem q1253 : (Jvm.Cond.methodLink "EchoPensModel" (129 : Nat) ({ cls := "EchoPensModel", name := "next", desc := "()V" } : Jvm.MethodName)) ∈ lw_all := lw_g (lw_at lw_m5 209 rfl) rfl
theorem q1254 : (Jvm.Cond.privateMethod ({ cls := "EchoPensModel", name := "next", desc := "()V" } : Jvm.MethodName)) ∈ lw_tbl := lw_at lw_m5 210 rfl
theorem q1255 : (Jvm.Cond.instanceMethod ({ cls := "EchoPensModel", name := "next", desc := "()V" } : Jvm.MethodName)) ∈ lw_all := lw_g (lw_at lw_m5 211 rfl) rfl
theorem q1256 : (Jvm.Cond.code ({ cls := "EchoPensModel", name := "next", desc := "()V" } : Jvm.MethodName) prog_13_method_15_code (2 : Nat) (Option.none : Option Jvm.ClassFile.FieldType)) ∈ lw_all := lw_g (lw_at lw_m5 212 rfl) rfl
theorem q1257 : (Jvm.Cond.methodLink "EchoPensModel" (99 : Nat) ({ cls := "EchoPensModel", name := "byteAt", desc := "(I)I" } : Jvm.MethodName)) ∈ lw_all := lw_g (lw_at lw_m5 213 rfl) rfl
theorem q1258 : (Jvm.Cond.privateMethod ({ cls := "EchoPensModel", name := "byteAt", desc := "(I)I" } : Jvm.MethodName)) ∈ lw_tbl := lw_at lw_m5 214 rfl
theorem q1259 : (Jvm.Cond.instanceMethod ({ cls := "EchoPensModel", name := "byteAt", desc := "(I)I" } : Jvm.MethodName)) ∈ lw_all := lw_g (lw_at lw_m5 215 rfl) rfl
theorem q1260 : (Jvm.Cond.code ({ cls := "EchoPensModel", name := "byteAt", desc := "(I)I" } : Jvm.MethodName) prog_13_method_10_code (2 : Nat) (Option.some Jvm.ClassFile.FieldType.int)) ∈ lw_all := lw_g (lw_at lw_m5 216 rfl) rfl
theorem q1261 : (Jvm.Cond.constantLong "EchoPensModel" (114 : Nat) (97 : Int64)) ∈ lw_all := lw_g (lw_at lw_m5 217 rfl) rfl
theorem q1262 : (Jvm.Cond.constantLong "EchoPensModel" (116 : Nat) (122 : Int64)) ∈ lw_all := lw_g (lw_at lw_m5 218 rfl) rfl
theorem q1263 : (Jvm.Cond.constantLong "EchoPensModel" (118 : Nat) (48 : Int64)) ∈ lw_all := lw_g (lw_at lw_m5 219 rfl) rfl
theorem q1264 : (Jvm.Cond.constantLong "EchoPensModel" (120 : Nat) (57 : Int64)) ∈ lw_all := lw_g (lw_at lw_m5 220 rfl) rfl
theorem q1265 : (Jvm.Cond.methodLink "EchoPensModel" (125 : Nat) ({ cls := "EchoPensModel", name := "needs", desc := "(ZI)V" } : Jvm.MethodName)) ∈ lw_all := lw_g (lw_at lw_m5 221 rfl) rfl
theorem q1266 : (Jvm.Cond.privateMethod ({ cls := "EchoPensModel", name := "needs", desc := "(ZI)V" } : Jvm.MethodName)) ∈ lw_tbl := lw_at lw_m5 222 rfl
theorem q1267 : (Jvm.Cond.instanceMethod ({ cls := "EchoPensModel", name := "needs", desc := "(ZI)V" } : Jvm.MethodName)) ∈ lw_all := lw_g (lw_at lw_m5 223 rfl) rfl
theorem q1268 : (Jvm.Cond.code ({ cls := "EchoPensModel", name := "needs", desc := "(ZI)V" } : Jvm.MethodName) prog_13_method_9_code (3 : Nat) (Option.none : Option Jvm.ClassFile.FieldType)) ∈ lw_all := lw_g (lw_at lw_m5 224 rfl) rfl
theorem q1269 : (Jvm.Cond.methodLink "EchoPensModel" (158 : Nat) ({ cls := "EchoPensModel", name := "readLine", desc := "()V" } : Jvm.MethodName)) ∈ lw_all := lw_g (lw_at lw_m5 225 rfl) rfl
theorem q1270 : (Jvm.Cond.privateMethod ({ cls := "EchoPensModel", name := "readLine", desc := "()V" } : Jvm.MethodName)) ∈ lw_tbl := lw_at lw_m5 226 rfl
theorem q1271 : (Jvm.Cond.instanceMethod ({ cls := "EchoPensModel", name := "readLine", desc := "()V" } : Jvm.MethodName)) ∈ lw_all := lw_g (lw_at lw_m5 227 rfl) rfl
theorem q1272 : (Jvm.Cond.code ({ cls := "EchoPensModel", name := "readLine", desc := "()V" } : Jvm.MethodName) prog_13_method_20_code (2 : Nat) (Option.none : Option Jvm.ClassFile.FieldType)) ∈ lw_all := lw_g (lw_at lw_m5 228 rfl) rfl
theorem q1273 : (Jvm.Cond.methodLink "EchoPensModel" (147 : Nat) ({ cls := "EchoPensModel", name := "lineNow", desc := "()I" } : Jvm.MethodName)) ∈ lw_all := lw_g (lw_at lw_m5 229 rfl) rfl
theorem q1274 : (Jvm.Cond.privateMethod ({ cls := "EchoPensModel", name := "lineNow", desc := "()I" } : Jvm.MethodName)) ∈ lw_tbl := lw_at lw_m5 230 rfl
theorem q1275 : (Jvm.Cond.instanceMethod ({ cls := "EchoPensModel", name := "lineNow", desc := "()I" } : Jvm.MethodName)) ∈ lw_all := lw_g (lw_at lw_m5 231 rfl) rfl
theorem q1276 : (Jvm.Cond.code ({ cls := "EchoPensModel", name := "lineNow", desc := "()I" } : Jvm.MethodName) prog_13_method_13_code (1 : Nat) (Option.some Jvm.ClassFile.FieldType.int)) ∈ lw_all := lw_g (lw_at lw_m5 232 rfl) rfl
theorem q1277 : (Jvm.Cond.methodLink "EchoPensModel" (103 : Nat) ({ cls := "EchoPensModel", name := "is", desc := "(IIII)Z" } : Jvm.MethodName)) ∈ lw_all := lw_g (lw_at lw_m5 233 rfl) rfl
theorem q1278 : (Jvm.Cond.privateMethod ({ cls := "EchoPensModel", name := "is", desc := "(IIII)Z" } : Jvm.MethodName)) ∈ lw_tbl := lw_at lw_m5 234 rfl
theorem q1279 : (Jvm.Cond.instanceMethod ({ cls := "EchoPensModel", name := "is", desc := "(IIII)Z" } : Jvm.MethodName)) ∈ lw_all := lw_g (lw_at lw_m5 235 rfl) rfl
theorem q1280 : (Jvm.Cond.code ({ cls := "EchoPensModel", name := "is", desc := "(IIII)Z" } : Jvm.MethodName) prog_13_method_11_code (5 : Nat) (Option.some Jvm.ClassFile.FieldType.boolean)) ∈ lw_all := lw_g (lw_at lw_m5 236 rfl) rfl
theorem q1281 : (Jvm.Cond.methodLink "EchoPensModel" (107 : Nat) ({ cls := "EchoPensModel", name := "ends", desc := "(II)Z" } : Jvm.MethodName)) ∈ lw_all := lw_g (lw_at lw_m5 237 rfl) rfl
theorem q1282 : (Jvm.Cond.privateMethod ({ cls := "EchoPensModel", name := "ends", desc := "(II)Z" } : Jvm.MethodName)) ∈ lw_tbl := lw_at lw_m5 238 rfl
theorem q1283 : (Jvm.Cond.instanceMethod ({ cls := "EchoPensModel", name := "ends", desc := "(II)Z" } : Jvm.MethodName)) ∈ lw_all := lw_g (lw_at lw_m5 239 rfl) rfl
theorem q1284 : (Jvm.Cond.code ({ cls := "EchoPensModel", name := "ends", desc := "(II)Z" } : Jvm.MethodName) prog_13_method_12_code (3 : Nat) (Option.some Jvm.ClassFile.FieldType.boolean)) ∈ lw_all := lw_g (lw_at lw_m6 0 rfl) rfl
theorem q1285 : (Jvm.Cond.methodLink "EchoPensModel" (150 : Nat) ({ cls := "EchoPensModel", name := "readLineOf", desc := "(I)V" } : Jvm.MethodName)) ∈ lw_all := lw_g (lw_at lw_m6 1 rfl) rfl
theorem q1286 : (Jvm.Cond.privateMethod ({ cls := "EchoPensModel", name := "readLineOf", desc := "(I)V" } : Jvm.MethodName)) ∈ lw_tbl := lw_at lw_m6 2 rfl
theorem q1287 : (Jvm.Cond.instanceMethod ({ cls := "EchoPensModel", name := "readLineOf", desc := "(I)V" } : Jvm.MethodName)) ∈ lw_all := lw_g (lw_at lw_m6 3 rfl) rfl
theorem q1288 : (Jvm.Cond.code ({ cls := "EchoPensModel", name := "readLineOf", desc := "(I)V" } : Jvm.MethodName) prog_13_method_19_code (3 : Nat) (Option.none : Option Jvm.ClassFile.FieldType)) ∈ lw_all := lw_g (lw_at lw_m6 4 rfl) rfl
theorem q1289 : (Jvm.Cond.methodLink "EchoPensModel" (135 : Nat) ({ cls := "EchoPensModel", name := "readVowel", desc := "()I" } : Jvm.MethodName)) ∈ lw_all := lw_g (lw_at lw_m6 5 rfl) rfl
theorem q1290 : (Jvm.Cond.privateMethod ({ cls := "EchoPensModel", name := "readVowel", desc := "()I" } : Jvm.MethodName)) ∈ lw_tbl := lw_at lw_m6 6 rfl
theorem q1291 : (Jvm.Cond.instanceMethod ({ cls := "EchoPensModel", name := "readVowel", desc := "()I" } : Jvm.MethodName)) ∈ lw_all := lw_g (lw_at lw_m6 7 rfl) rfl
theorem q1292 : (Jvm.Cond.code ({ cls := "EchoPensModel", name := "readVowel", desc := "()I" } : Jvm.MethodName) prog_13_method_17_code (2 : Nat) (Option.some Jvm.ClassFile.FieldType.int)) ∈ lw_all := lw_g (lw_at lw_m6 8 rfl) rfl
theorem q1293 : (Jvm.Cond.methodLink "EchoPensModel" (132 : Nat) ({ cls := "EchoPensModel", name := "vowelOf", desc := "(I)I" } : Jvm.MethodName)) ∈ lw_all := lw_g (lw_at lw_m6 9 rfl) rfl
theorem q1294 : (Jvm.Cond.static ({ cls := "EchoPensModel", name := "vowelOf", desc := "(I)I" } : Jvm.MethodName)) ∈ lw_all := lw_g (lw_at lw_m6 10 rfl) rfl
theorem q1295 : (Jvm.Cond.code ({ cls := "EchoPensModel", name := "vowelOf", desc := "(I)I" } : Jvm.MethodName) prog_13_method_14_code (1 : Nat) (Option.some Jvm.ClassFile.FieldType.int)) ∈ lw_all := lw_g (lw_at lw_m6 11 rfl) rfl
theorem q1296 : (Jvm.Cond.methodLink "EchoPensModel" (139 : Nat) ({ cls := "EchoPensModel", name := "readNumber", desc := "(II)I" } : Jvm.MethodName)) ∈ lw_all := lw_g (lw_at lw_m6 12 rfl) rfl
theorem q1297 : (Jvm.Cond.privateMethod ({ cls := "EchoPensModel", name := "readNumber", desc := "(II)I" } : Jvm.MethodName)) ∈ lw_tbl := lw_at lw_m6 13 rfl
theorem q1298 : (Jvm.Cond.instanceMethod ({ cls := "EchoPensModel", name := "readNumber", desc := "(II)I" } : Jvm.MethodName)) ∈ lw_all := lw_g (lw_at lw_m6 14 rfl) rfl
theorem q1299 : (Jvm.Cond.code ({ cls := "EchoPensModel", name := "readNumber", desc := "(II)I" } : Jvm.MethodName) prog_13_method_16_code (4 : Nat) (Option.some Jvm.ClassFile.FieldType.int)) ∈ lw_all := lw_g (lw_at lw_m6 15 rfl) rfl
theorem q1300 : (Jvm.Cond.methodLink "EchoPensModel" (143 : Nat) ({ cls := "EchoPensModel", name := "readWord", desc := "([II)V" } : Jvm.MethodName)) ∈ lw_all := lw_g (lw_at lw_m6 16 rfl) rfl
theorem q1301 : (Jvm.Cond.privateMethod ({ cls := "EchoPensModel", name := "readWord", desc := "([II)V" } : Jvm.MethodName)) ∈ lw_tbl := lw_at lw_m6 17 rfl
theorem q1302 : (Jvm.Cond.instanceMethod ({ cls := "EchoPensModel", name := "readWord", desc := "([II)V" } : Jvm.MethodName)) ∈ lw_all := lw_g (lw_at lw_m6 18 rfl) rfl
theorem q1303 : (Jvm.Cond.code ({ cls := "EchoPensModel", name := "readWord", desc := "([II)V" } : Jvm.MethodName) prog_13_method_18_code (4 : Nat) (Option.none : Option Jvm.ClassFile.FieldType)) ∈ lw_all := lw_g (lw_at lw_m6 19 rfl) rfl
theorem q1304 : (Jvm.Cond.methodLink "EchoPensModel" (161 : Nat) ({ cls := "EchoPensModel", name := "doFit", desc := "()Z" } : Jvm.MethodName)) ∈ lw_all := lw_g (lw_at lw_m6 20 rfl) rfl
theorem q1305 : (Jvm.Cond.privateMethod ({ cls := "EchoPensModel", name := "doFit", desc := "()Z" } : Jvm.MethodName)) ∈ lw_tbl := lw_at lw_m6 21 rfl
theorem q1306 : (Jvm.Cond.instanceMethod ({ cls := "EchoPensModel", name := "doFit", desc := "()Z" } : Jvm.MethodName)) ∈ lw_all := lw_g (lw_at lw_m6 22 rfl) rfl
theorem q1307 : (Jvm.Cond.code ({ cls := "EchoPensModel", name := "doFit", desc := "()Z" } : Jvm.MethodName) prog_13_method_21_code (5 : Nat) (Option.some Jvm.ClassFile.FieldType.boolean)) ∈ lw_all := lw_g (lw_at lw_m6 23 rfl) rfl
theorem q1308 : (Jvm.Cond.methodLink "EchoPensModel" (154 : Nat) ({ cls := "EchoPensModel", name := "flag", desc := "(Z)I" } : Jvm.MethodName)) ∈ lw_all := lw_g (lw_at lw_m6 24 rfl) rfl
theorem q1309 : (Jvm.Cond.static ({ cls := "EchoPensModel", name := "flag", desc := "(Z)I" } : Jvm.MethodName)) ∈ lw_all := lw_g (lw_at lw_m6 25 rfl) rfl
theorem q1310 : (Jvm.Cond.code ({ cls := "EchoPensModel", name := "flag", desc := "(Z)I" } : Jvm.MethodName) prog_13_method_4_code (1 : Nat) (Option.some Jvm.ClassFile.FieldType.int)) ∈ lw_all := lw_g (lw_at lw_m6 26 rfl) rfl
theorem q1312 : (Jvm.Cond.instanceMethod ({ cls := "EchoPensModel", name := "fault", desc := "()I" } : Jvm.MethodName)) ∈ lw_all := lw_g (lw_at lw_m6 28 rfl) rfl
theorem q1313 : (Jvm.Cond.selects "EchoPensModel" ({ cls := "EchoPensModel", name := "fault", desc := "()I" } : Jvm.MethodName) ({ cls := "EchoPensModel", name := "fault", desc := "()I" } : Jvm.MethodName)) ∈ lw_all := lw_g (lw_at lw_m6 29 rfl) rfl
theorem q1314 : (Jvm.Cond.code ({ cls := "EchoPensModel", name := "fault", desc := "()I" } : Jvm.MethodName) prog_13_method_23_code (1 : Nat) (Option.some Jvm.ClassFile.FieldType.int)) ∈ lw_all := lw_g (lw_at lw_m6 30 rfl) rfl
theorem q1316 : (Jvm.Cond.instanceMethod ({ cls := "EchoPensModel", name := "rule", desc := "(I)I" } : Jvm.MethodName)) ∈ lw_all := lw_g (lw_at lw_m6 32 rfl) rfl
theorem q1317 : (Jvm.Cond.selects "EchoPensModel" ({ cls := "EchoPensModel", name := "rule", desc := "(I)I" } : Jvm.MethodName) ({ cls := "EchoPensModel", name := "rule", desc := "(I)I" } : Jvm.MethodName)) ∈ lw_all := lw_g (lw_at lw_m6 33 rfl) rfl
theorem q1318 : (Jvm.Cond.code ({ cls := "EchoPensModel", name := "rule", desc := "(I)I" } : Jvm.MethodName) prog_13_method_50_code (2 : Nat) (Option.some Jvm.ClassFile.FieldType.int)) ∈ lw_all := lw_g (lw_at lw_m6 34 rfl) rfl
theorem q1319 : (Jvm.Cond.methodLink "EchoPensModel" (209 : Nat) ({ cls := "EchoPensModel", name := "starts", desc := "()V" } : Jvm.MethodName)) ∈ lw_all := lw_g (lw_at lw_m6 35 rfl) rfl
theorem q1320 : (Jvm.Cond.privateMethod ({ cls := "EchoPensModel", name := "starts", desc := "()V" } : Jvm.MethodName)) ∈ lw_tbl := lw_at lw_m6 36 rfl
theorem q1321 : (Jvm.Cond.instanceMethod ({ cls := "EchoPensModel", name := "starts", desc := "()V" } : Jvm.MethodName)) ∈ lw_all := lw_g (lw_at lw_m6 37 rfl) rfl
theorem q1322 : (Jvm.Cond.code ({ cls := "EchoPensModel", name := "starts", desc := "()V" } : Jvm.MethodName) prog_13_method_28_code (2 : Nat) (Option.none : Option Jvm.ClassFile.FieldType)) ∈ lw_all := lw_g (lw_at lw_m6 38 rfl) rfl
theorem q1323 : (Jvm.Cond.methodLink "EchoPensModel" (212 : Nat) ({ cls := "EchoPensModel", name := "inPen", desc := "(I)I" } : Jvm.MethodName)) ∈ lw_all := lw_g (lw_at lw_m6 39 rfl) rfl
theorem q1324 : (Jvm.Cond.privateMethod ({ cls := "EchoPensModel", name := "inPen", desc := "(I)I" } : Jvm.MethodName)) ∈ lw_tbl := lw_at lw_m6 40 rfl
theorem q1325 : (Jvm.Cond.instanceMethod ({ cls := "EchoPensModel", name := "inPen", desc := "(I)I" } : Jvm.MethodName)) ∈ lw_all := lw_g (lw_at lw_m6 41 rfl) rfl
theorem q1326 : (Jvm.Cond.code ({ cls := "EchoPensModel", name := "inPen", desc := "(I)I" } : Jvm.MethodName) prog_13_method_39_code (4 : Nat) (Option.some Jvm.ClassFile.FieldType.int)) ∈ lw_all := lw_g (lw_at lw_m6 42 rfl) rfl
theorem q1327 : (Jvm.Cond.methodLink "EchoPensModel" (165 : Nat) ({ cls := "EchoPensModel", name := "of", desc := "(II)I" } : Jvm.MethodName)) ∈ lw_all := lw_g (lw_at lw_m6 43 rfl) rfl
theorem q1328 : (Jvm.Cond.privateMethod ({ cls := "EchoPensModel", name := "of", desc := "(II)I" } : Jvm.MethodName)) ∈ lw_tbl := lw_at lw_m6 44 rfl
theorem q1329 : (Jvm.Cond.instanceMethod ({ cls := "EchoPensModel", name := "of", desc := "(II)I" } : Jvm.MethodName)) ∈ lw_all := lw_g (lw_at lw_m6 45 rfl) rfl
theorem q1330 : (Jvm.Cond.code ({ cls := "EchoPensModel", name := "of", desc := "(II)I" } : Jvm.MethodName) prog_13_method_30_code (3 : Nat) (Option.some Jvm.ClassFile.FieldType.int)) ∈ lw_all := lw_g (lw_at lw_m6 46 rfl) rfl
theorem q1331 : (Jvm.Cond.methodLink "EchoPensModel" (215 : Nat) ({ cls := "EchoPensModel", name := "silentNow", desc := "()I" } : Jvm.MethodName)) ∈ lw_all := lw_g (lw_at lw_m6 47 rfl) rfl
theorem q1332 : (Jvm.Cond.privateMethod ({ cls := "EchoPensModel", name := "silentNow", desc := "()I" } : Jvm.MethodName)) ∈ lw_tbl := lw_at lw_m6 48 rfl
theorem q1333 : (Jvm.Cond.instanceMethod ({ cls := "EchoPensModel", name := "silentNow", desc := "()I" } : Jvm.MethodName)) ∈ lw_all := lw_g (lw_at lw_m6 49 rfl) rfl
theorem q1334 : (Jvm.Cond.code ({ cls := "EchoPensModel", name := "silentNow", desc := "()I" } : Jvm.MethodName) prog_13_method_45_code (3 : Nat) (Option.some Jvm.ClassFile.FieldType.int)) ∈ lw_all := lw_g (lw_at lw_m6 50 rfl) rfl
theorem q1335 : (Jvm.Cond.methodLink "EchoPensModel" (172 : Nat) ({ cls := "EchoPensModel", name := "isSilent", desc := "(I)Z" } : Jvm.MethodName)) ∈ lw_all := lw_g (lw_at lw_m6 51 rfl) rfl
theorem q1336 : (Jvm.Cond.privateMethod ({ cls := "EchoPensModel", name := "isSilent", desc := "(I)Z" } : Jvm.MethodName)) ∈ lw_tbl := lw_at lw_m6 52 rfl
theorem q1337 : (Jvm.Cond.instanceMethod ({ cls := "EchoPensModel", name := "isSilent", desc := "(I)Z" } : Jvm.MethodName)) ∈ lw_all := lw_g (lw_at lw_m6 53 rfl) rfl
theorem q1338 : (Jvm.Cond.code ({ cls := "EchoPensModel", name := "isSilent", desc := "(I)Z" } : Jvm.MethodName) prog_13_method_34_code (2 : Nat) (Option.some Jvm.ClassFile.FieldType.boolean)) ∈ lw_all := lw_g (lw_at lw_m6 54 rfl) rfl
theorem q1340 : (Jvm.Cond.instanceMethod ({ cls := "EchoPensModel", name := "pen", desc := "(II)I" } : Jvm.MethodName)) ∈ lw_all := lw_g (lw_at lw_m6 56 rfl) rfl
theorem q1341 : (Jvm.Cond.selects "EchoPensModel" ({ cls := "EchoPensModel", name := "pen", desc := "(II)I" } : Jvm.MethodName) ({ cls := "EchoPensModel", name := "pen", desc := "(II)I" } : Jvm.MethodName)) ∈ lw_all := lw_g (lw_at lw_m6 57 rfl) rfl
theorem q1342 : (Jvm.Cond.code ({ cls := "EchoPensModel", name := "pen", desc := "(II)I" } : Jvm.MethodName) prog_13_method_51_code (3 : Nat) (Option.some Jvm.ClassFile.FieldType.int)) ∈ lw_all := lw_g (lw_at lw_m6 58 rfl) rfl
theorem q1343 : (Jvm.Cond.methodLink "EchoPensModel" (218 : Nat) ({ cls := "EchoPensModel", name := "isPen", desc := "(I)Z" } : Jvm.MethodName)) ∈ lw_all := lw_g (lw_at lw_m6 59 rfl) rfl
theorem q1344 : (Jvm.Cond.privateMethod ({ cls := "EchoPensModel", name := "isPen", desc := "(I)Z" } : Jvm.MethodName)) ∈ lw_tbl := lw_at lw_m6 60 rfl
theorem q1345 : (Jvm.Cond.instanceMethod ({ cls := "EchoPensModel", name := "isPen", desc := "(I)Z" } : Jvm.MethodName)) ∈ lw_all := lw_g (lw_at lw_m6 61 rfl) rfl
theorem q1346 : (Jvm.Cond.code ({ cls := "EchoPensModel", name := "isPen", desc := "(I)Z" } : Jvm.MethodName) prog_13_method_24_code (2 : Nat) (Option.some Jvm.ClassFile.FieldType.boolean)) ∈ lw_all := lw_g (lw_at lw_m6 62 rfl) rfl
theorem q1347 : (Jvm.Cond.constantLong "EchoPensModel" (221 : Nat) (2 : Int64)) ∈ lw_all := lw_g (lw_at lw_m6 63 rfl) rfl
theorem q1349 : (Jvm.Cond.instanceMethod ({ cls := "EchoPensModel", name := "echo", desc := "(II)I" } : Jvm.MethodName)) ∈ lw_all := lw_g (lw_at lw_m6 65 rfl) rfl
theorem q1350 : (Jvm.Cond.selects "EchoPensModel" ({ cls := "EchoPensModel", name := "echo", desc := "(II)I" } : Jvm.MethodName) ({ cls := "EchoPensModel", name := "echo", desc := "(II)I" } : Jvm.MethodName)) ∈ lw_all := lw_g (lw_at lw_m6 66 rfl) rfl
theorem q1351 : (Jvm.Cond.code ({ cls := "EchoPensModel", name := "echo", desc := "(II)I" } : Jvm.MethodName) prog_13_method_52_code (3 : Nat) (Option.some Jvm.ClassFile.FieldType.int)) ∈ lw_all := lw_g (lw_at lw_m6 67 rfl) rfl
theorem q1352 : (Jvm.Cond.methodLink "EchoPensModel" (223 : Nat) ({ cls := "EchoPensModel", name := "isEcho", desc := "(I)Z" } : Jvm.MethodName)) ∈ lw_all := lw_g (lw_at lw_m6 68 rfl) rfl
theorem q1353 : (Jvm.Cond.privateMethod ({ cls := "EchoPensModel", name := "isEcho", desc := "(I)Z" } : Jvm.MethodName)) ∈ lw_tbl := lw_at lw_m6 69 rfl
theorem q1354 : (Jvm.Cond.instanceMethod ({ cls := "EchoPensModel", name := "isEcho", desc := "(I)Z" } : Jvm.MethodName)) ∈ lw_all := lw_g (lw_at lw_m6 70 rfl) rfl
theorem q1355 : (Jvm.Cond.code ({ cls := "EchoPensModel", name := "isEcho", desc := "(I)Z" } : Jvm.MethodName) prog_13_method_25_code (2 : Nat) (Option.some Jvm.ClassFile.FieldType.boolean)) ∈ lw_all := lw_g (lw_at lw_m6 71 rfl) rfl
theorem q1356 : (Jvm.Cond.methodLink "EchoPensModel" (178 : Nat) ({ cls := "EchoPensModel", name := "returnsOf", desc := "(I)I" } : Jvm.MethodName)) ∈ lw_all := lw_g (lw_at lw_m6 72 rfl) rfl
theorem q1357 : (Jvm.Cond.privateMethod ({ cls := "EchoPensModel", name := "returnsOf", desc := "(I)I" } : Jvm.MethodName)) ∈ lw_tbl := lw_at lw_m6 73 rfl
theorem q1358 : (Jvm.Cond.instanceMethod ({ cls := "EchoPensModel", name := "returnsOf", desc := "(I)I" } : Jvm.MethodName)) ∈ lw_all := lw_g (lw_at lw_m6 74 rfl) rfl
theorem q1359 : (Jvm.Cond.code ({ cls := "EchoPensModel", name := "returnsOf", desc := "(I)I" } : Jvm.MethodName) prog_13_method_35_code (3 : Nat) (Option.some Jvm.ClassFile.FieldType.int)) ∈ lw_all := lw_g (lw_at lw_m6 75 rfl) rfl
theorem q1360 : (Jvm.Cond.methodLink "EchoPensModel" (168 : Nat) ({ cls := "EchoPensModel", name := "isSold", desc := "(I)Z" } : Jvm.MethodName)) ∈ lw_all := lw_g (lw_at lw_m6 76 rfl) rfl
theorem q1361 : (Jvm.Cond.privateMethod ({ cls := "EchoPensModel", name := "isSold", desc := "(I)Z" } : Jvm.MethodName)) ∈ lw_tbl := lw_at lw_m6 77 rfl
theorem q1362 : (Jvm.Cond.instanceMethod ({ cls := "EchoPensModel", name := "isSold", desc := "(I)Z" } : Jvm.MethodName)) ∈ lw_all := lw_g (lw_at lw_m6 78 rfl) rfl
theorem q1363 : (Jvm.Cond.code ({ cls := "EchoPensModel", name := "isSold", desc := "(I)Z" } : Jvm.MethodName) prog_13_method_33_code (2 : Nat) (Option.some Jvm.ClassFile.FieldType.boolean)) ∈ lw_all := lw_g (lw_at lw_m6 79 rfl) rfl
theorem q1364 : (Jvm.Cond.methodLink "EchoPensModel" (175 : Nat) ({ cls := "EchoPensModel", name := "distanceOf", desc := "(I)I" } : Jvm.MethodName)) ∈ lw_all := lw_g (lw_at lw_m6 80 rfl) rfl
theorem q1365 : (Jvm.Cond.privateMethod ({ cls := "EchoPensModel", name := "distanceOf", desc := "(I)I" } : Jvm.MethodName)) ∈ lw_tbl := lw_at lw_m6 81 rfl
theorem q1366 : (Jvm.Cond.instanceMethod ({ cls := "EchoPensModel", name := "distanceOf", desc := "(I)I" } : Jvm.MethodName)) ∈ lw_all := lw_g (lw_at lw_m6 82 rfl) rfl
theorem q1367 : (Jvm.Cond.code ({ cls := "EchoPensModel", name := "distanceOf", desc := "(I)I" } : Jvm.MethodName) prog_13_method_32_code (2 : Nat) (Option.some Jvm.ClassFile.FieldType.int)) ∈ lw_all := lw_g (lw_at lw_m6 83 rfl) rfl
theorem q1368 : (Jvm.Cond.methodLink "EchoPensModel" (181 : Nat) ({ cls := "EchoPensModel", name := "periodOf", desc := "(I)I" } : Jvm.MethodName)) ∈ lw_all := lw_g (lw_at lw_m6 84 rfl) rfl
theorem q1369 : (Jvm.Cond.privateMethod ({ cls := "EchoPensModel", name := "periodOf", desc := "(I)I" } : Jvm.MethodName)) ∈ lw_tbl := lw_at lw_m6 85 rfl
theorem q1370 : (Jvm.Cond.instanceMethod ({ cls := "EchoPensModel", name := "periodOf", desc := "(I)I" } : Jvm.MethodName)) ∈ lw_all := lw_g (lw_at lw_m6 86 rfl) rfl
theorem q1371 : (Jvm.Cond.code ({ cls := "EchoPensModel", name := "periodOf", desc := "(I)I" } : Jvm.MethodName) prog_13_method_36_code (2 : Nat) (Option.some Jvm.ClassFile.FieldType.int)) ∈ lw_all := lw_g (lw_at lw_m6 87 rfl) rfl
theorem q1373 : (Jvm.Cond.instanceMethod ({ cls := "EchoPensModel", name := "letter", desc := "(II)I" } : Jvm.MethodName)) ∈ lw_all := lw_g (lw_at lw_m6 89 rfl) rfl
theorem q1374 : (Jvm.Cond.selects "EchoPensModel" ({ cls := "EchoPensModel", name := "letter", desc := "(II)I" } : Jvm.MethodName) ({ cls := "EchoPensModel", name := "letter", desc := "(II)I" } : Jvm.MethodName)) ∈ lw_all := lw_g (lw_at lw_m6 90 rfl) rfl
theorem q1375 : (Jvm.Cond.code ({ cls := "EchoPensModel", name := "letter", desc := "(II)I" } : Jvm.MethodName) prog_13_method_53_code (3 : Nat) (Option.some Jvm.ClassFile.FieldType.int)) ∈ lw_all := lw_g (lw_at lw_m6 91 rfl) rfl
theorem q1377 : (Jvm.Cond.instanceMethod ({ cls := "EchoPensModel", name := "order", desc := "(II)I" } : Jvm.MethodName)) ∈ lw_all := lw_g (lw_at lw_m6 93 rfl) rfl
theorem q1378 : (Jvm.Cond.selects "EchoPensModel" ({ cls := "EchoPensModel", name := "order", desc := "(II)I" } : Jvm.MethodName) ({ cls := "EchoPensModel", name := "order", desc := "(II)I" } : Jvm.MethodName)) ∈ lw_all := lw_g (lw_at lw_m6 94 rfl) rfl
theorem q1379 : (Jvm.Cond.code ({ cls := "EchoPensModel", name := "order", desc := "(II)I" } : Jvm.MethodName) prog_13_method_54_code (4 : Nat) (Option.some Jvm.ClassFile.FieldType.int)) ∈ lw_all := lw_g (lw_at lw_m6 95 rfl) rfl
theorem q1380 : (Jvm.Cond.methodLink "EchoPensModel" (226 : Nat) ({ cls := "EchoPensModel", name := "isOrder", desc := "(I)Z" } : Jvm.MethodName)) ∈ lw_all := lw_g (lw_at lw_m6 96 rfl) rfl
theorem q1381 : (Jvm.Cond.privateMethod ({ cls := "EchoPensModel", name := "isOrder", desc := "(I)Z" } : Jvm.MethodName)) ∈ lw_tbl := lw_at lw_m6 97 rfl
theorem q1382 : (Jvm.Cond.instanceMethod ({ cls := "EchoPensModel", name := "isOrder", desc := "(I)Z" } : Jvm.MethodName)) ∈ lw_all := lw_g (lw_at lw_m6 98 rfl) rfl
theorem q1383 : (Jvm.Cond.code ({ cls := "EchoPensModel", name := "isOrder", desc := "(I)Z" } : Jvm.MethodName) prog_13_method_26_code (2 : Nat) (Option.some Jvm.ClassFile.FieldType.boolean)) ∈ lw_all := lw_g (lw_at lw_m6 99 rfl) rfl
theorem q1385 : (Jvm.Cond.instanceMethod ({ cls := "EchoPensModel", name := "drive", desc := "(II)I" } : Jvm.MethodName)) ∈ lw_all := lw_g (lw_at lw_m6 101 rfl) rfl
theorem q1386 : (Jvm.Cond.selects "EchoPensModel" ({ cls := "EchoPensModel", name := "drive", desc := "(II)I" } : Jvm.MethodName) ({ cls := "EchoPensModel", name := "drive", desc := "(II)I" } : Jvm.MethodName)) ∈ lw_all := lw_g (lw_at lw_m6 102 rfl) rfl
theorem q1387 : (Jvm.Cond.code ({ cls := "EchoPensModel", name := "drive", desc := "(II)I" } : Jvm.MethodName) prog_13_method_56_code (3 : Nat) (Option.some Jvm.ClassFile.FieldType.int)) ∈ lw_all := lw_g (lw_at lw_m6 103 rfl) rfl
theorem q1388 : (Jvm.Cond.methodLink "EchoPensModel" (229 : Nat) ({ cls := "EchoPensModel", name := "bitsOf", desc := "(I)I" } : Jvm.MethodName)) ∈ lw_all := lw_g (lw_at lw_m6 104 rfl) rfl
theorem q1389 : (Jvm.Cond.static ({ cls := "EchoPensModel", name := "bitsOf", desc := "(I)I" } : Jvm.MethodName)) ∈ lw_all := lw_g (lw_at lw_m6 105 rfl) rfl
theorem q1390 : (Jvm.Cond.code ({ cls := "EchoPensModel", name := "bitsOf", desc := "(I)I" } : Jvm.MethodName) prog_13_method_40_code (3 : Nat) (Option.some Jvm.ClassFile.FieldType.int)) ∈ lw_all := lw_g (lw_at lw_m6 106 rfl) rfl
theorem q1391 : (Jvm.Cond.methodLink "EchoPensModel" (232 : Nat) ({ cls := "EchoPensModel", name := "becomes", desc := "(II)I" } : Jvm.MethodName)) ∈ lw_all := lw_g (lw_at lw_m6 107 rfl) rfl
theorem q1392 : (Jvm.Cond.privateMethod ({ cls := "EchoPensModel", name := "becomes", desc := "(II)I" } : Jvm.MethodName)) ∈ lw_tbl := lw_at lw_m6 108 rfl
theorem q1393 : (Jvm.Cond.instanceMethod ({ cls := "EchoPensModel", name := "becomes", desc := "(II)I" } : Jvm.MethodName)) ∈ lw_all := lw_g (lw_at lw_m6 109 rfl) rfl
theorem q1394 : (Jvm.Cond.code ({ cls := "EchoPensModel", name := "becomes", desc := "(II)I" } : Jvm.MethodName) prog_13_method_55_code (4 : Nat) (Option.some Jvm.ClassFile.FieldType.int)) ∈ lw_all := lw_g (lw_at lw_m6 110 rfl) rfl
theorem q1396 : (Jvm.Cond.instanceMethod ({ cls := "EchoPensModel", name := "fence", desc := "(III)I" } : Jvm.MethodName)) ∈ lw_all := lw_g (lw_at lw_m6 112 rfl) rfl
theorem q1397 : (Jvm.Cond.selects "EchoPensModel" ({ cls := "EchoPensModel", name := "fence", desc := "(III)I" } : Jvm.MethodName) ({ cls := "EchoPensModel", name := "fence", desc := "(III)I" } : Jvm.MethodName)) ∈ lw_all := lw_g (lw_at lw_m6 113 rfl) rfl
theorem q1398 : (Jvm.Cond.code ({ cls := "EchoPensModel", name := "fence", desc := "(III)I" } : Jvm.MethodName) prog_13_method_57_code (4 : Nat) (Option.some Jvm.ClassFile.FieldType.int)) ∈ lw_all := lw_g (lw_at lw_m6 114 rfl) rfl
theorem q1399 : (Jvm.Cond.methodLink "EchoPensModel" (235 : Nat) ({ cls := "EchoPensModel", name := "isPart", desc := "(I)Z" } : Jvm.MethodName)) ∈ lw_all := lw_g (lw_at lw_m6 115 rfl) rfl
theorem q1400 : (Jvm.Cond.static ({ cls := "EchoPensModel", name := "isPart", desc := "(I)Z" } : Jvm.MethodName)) ∈ lw_all := lw_g (lw_at lw_m6 116 rfl) rfl
theorem q1401 : (Jvm.Cond.code ({ cls := "EchoPensModel", name := "isPart", desc := "(I)Z" } : Jvm.MethodName) prog_13_method_27_code (1 : Nat) (Option.some Jvm.ClassFile.FieldType.boolean)) ∈ lw_all := lw_g (lw_at lw_m6 117 rfl) rfl
theorem q1402 : (Jvm.Cond.constantLong "EchoPensModel" (238 : Nat) (9 : Int64)) ∈ lw_all := lw_g (lw_at lw_m6 118 rfl) rfl
theorem q1403 : (Jvm.Cond.constantLong "EchoPensModel" (240 : Nat) (4 : Int64)) ∈ lw_all := lw_g (lw_at lw_m6 119 rfl) rfl
theorem q1405 : (Jvm.Cond.instanceMethod ({ cls := "EchoPensModel", name := "raise", desc := "(III)I" } : Jvm.MethodName)) ∈ lw_all := lw_g (lw_at lw_m6 121 rfl) rfl
theorem q1406 : (Jvm.Cond.selects "EchoPensModel" ({ cls := "EchoPensModel", name := "raise", desc := "(III)I" } : Jvm.MethodName) ({ cls := "EchoPensModel", name := "raise", desc := "(III)I" } : Jvm.MethodName)) ∈ lw_all := lw_g (lw_at lw_m6 122 rfl) rfl
theorem q1407 : (Jvm.Cond.code ({ cls := "EchoPensModel", name := "raise", desc := "(III)I" } : Jvm.MethodName) prog_13_method_58_code (4 : Nat) (Option.some Jvm.ClassFile.FieldType.int)) ∈ lw_all := lw_g (lw_at lw_m6 123 rfl) rfl
theorem q1408 : (Jvm.Cond.constantLong "EchoPensModel" (242 : Nat) (99 : Int64)) ∈ lw_all := lw_g (lw_at lw_m6 124 rfl) rfl
theorem q1409 : (Jvm.Cond.constantLong "EchoPensModel" (244 : Nat) (3 : Int64)) ∈ lw_all := lw_g (lw_at lw_m6 125 rfl) rfl
theorem q1411 : (Jvm.Cond.instanceMethod ({ cls := "EchoPensModel", name := "clip", desc := "(I)I" } : Jvm.MethodName)) ∈ lw_all := lw_g (lw_at lw_m6 127 rfl) rfl
theorem q1412 : (Jvm.Cond.selects "EchoPensModel" ({ cls := "EchoPensModel", name := "clip", desc := "(I)I" } : Jvm.MethodName) ({ cls := "EchoPensModel", name := "clip", desc := "(I)I" } : Jvm.MethodName)) ∈ lw_all := lw_g (lw_at lw_m6 128 rfl) rfl
theorem q1413 : (Jvm.Cond.code ({ cls := "EchoPensModel", name := "clip", desc := "(I)I" } : Jvm.MethodName) prog_13_method_59_code (2 : Nat) (Option.some Jvm.ClassFile.FieldType.int)) ∈ lw_all := lw_g (lw_at lw_m6 129 rfl) rfl
theorem q1414 : (Jvm.Cond.methodLink "EchoPensModel" (194 : Nat) ({ cls := "EchoPensModel", name := "losesLetter", desc := "(I)V" } : Jvm.MethodName)) ∈ lw_all := lw_g (lw_at lw_m6 130 rfl) rfl
theorem q1415 : (Jvm.Cond.privateMethod ({ cls := "EchoPensModel", name := "losesLetter", desc := "(I)V" } : Jvm.MethodName)) ∈ lw_tbl := lw_at lw_m6 131 rfl
theorem q1416 : (Jvm.Cond.instanceMethod ({ cls := "EchoPensModel", name := "losesLetter", desc := "(I)V" } : Jvm.MethodName)) ∈ lw_all := lw_g (lw_at lw_m6 132 rfl) rfl
theorem q1417 : (Jvm.Cond.code ({ cls := "EchoPensModel", name := "losesLetter", desc := "(I)V" } : Jvm.MethodName) prog_13_method_43_code (2 : Nat) (Option.none : Option Jvm.ClassFile.FieldType)) ∈ lw_all := lw_g (lw_at lw_m6 133 rfl) rfl
theorem q1418 : (Jvm.Cond.methodLink "EchoPensModel" (187 : Nat) ({ cls := "EchoPensModel", name := "becomesOf", desc := "(III)V" } : Jvm.MethodName)) ∈ lw_all := lw_g (lw_at lw_m6 134 rfl) rfl
theorem q1419 : (Jvm.Cond.privateMethod ({ cls := "EchoPensModel", name := "becomesOf", desc := "(III)V" } : Jvm.MethodName)) ∈ lw_tbl := lw_at lw_m6 135 rfl
theorem q1420 : (Jvm.Cond.instanceMethod ({ cls := "EchoPensModel", name := "becomesOf", desc := "(III)V" } : Jvm.MethodName)) ∈ lw_all := lw_g (lw_at lw_m6 136 rfl) rfl
theorem q1421 : (Jvm.Cond.code ({ cls := "EchoPensModel", name := "becomesOf", desc := "(III)V" } : Jvm.MethodName) prog_13_method_31_code (4 : Nat) (Option.none : Option Jvm.ClassFile.FieldType)) ∈ lw_all := lw_g (lw_at lw_m6 137 rfl) rfl
theorem q1422 : (Jvm.Cond.methodLink "EchoPensModel" (246 : Nat) ({ cls := "EchoPensModel", name := "settles", desc := "()V" } : Jvm.MethodName)) ∈ lw_all := lw_g (lw_at lw_m6 138 rfl) rfl
theorem q1423 : (Jvm.Cond.privateMethod ({ cls := "EchoPensModel", name := "settles", desc := "()V" } : Jvm.MethodName)) ∈ lw_tbl := lw_at lw_m6 139 rfl
theorem q1424 : (Jvm.Cond.instanceMethod ({ cls := "EchoPensModel", name := "settles", desc := "()V" } : Jvm.MethodName)) ∈ lw_all := lw_g (lw_at lw_m6 140 rfl) rfl
theorem q1425 : (Jvm.Cond.code ({ cls := "EchoPensModel", name := "settles", desc := "()V" } : Jvm.MethodName) prog_13_method_29_code (2 : Nat) (Option.none : Option Jvm.ClassFile.FieldType)) ∈ lw_all := lw_g (lw_at lw_m6 141 rfl) rfl
theorem q1427 : (Jvm.Cond.instanceMethod ({ cls := "EchoPensModel", name := "teach", desc := "(II)I" } : Jvm.MethodName)) ∈ lw_all := lw_g (lw_at lw_m6 143 rfl) rfl
theorem q1428 : (Jvm.Cond.selects "EchoPensModel" ({ cls := "EchoPensModel", name := "teach", desc := "(II)I" } : Jvm.MethodName) ({ cls := "EchoPensModel", name := "teach", desc := "(II)I" } : Jvm.MethodName)) ∈ lw_all := lw_g (lw_at lw_m6 144 rfl) rfl
theorem q1429 : (Jvm.Cond.code ({ cls := "EchoPensModel", name := "teach", desc := "(II)I" } : Jvm.MethodName) prog_13_method_60_code (4 : Nat) (Option.some Jvm.ClassFile.FieldType.int)) ∈ lw_all := lw_g (lw_at lw_m6 145 rfl) rfl
theorem q1431 : (Jvm.Cond.instanceMethod ({ cls := "EchoPensModel", name := "cross", desc := "(II)I" } : Jvm.MethodName)) ∈ lw_all := lw_g (lw_at lw_m6 147 rfl) rfl
theorem q1432 : (Jvm.Cond.selects "EchoPensModel" ({ cls := "EchoPensModel", name := "cross", desc := "(II)I" } : Jvm.MethodName) ({ cls := "EchoPensModel", name := "cross", desc := "(II)I" } : Jvm.MethodName)) ∈ lw_all := lw_g (lw_at lw_m6 148 rfl) rfl
theorem q1433 : (Jvm.Cond.code ({ cls := "EchoPensModel", name := "cross", desc := "(II)I" } : Jvm.MethodName) prog_13_method_61_code (4 : Nat) (Option.some Jvm.ClassFile.FieldType.int)) ∈ lw_all := lw_g (lw_at lw_m6 149 rfl) rfl
theorem q1435 : (Jvm.Cond.instanceMethod ({ cls := "EchoPensModel", name := "go", desc := "(I)I" } : Jvm.MethodName)) ∈ lw_all := lw_g (lw_at lw_m6 151 rfl) rfl
theorem q1436 : (Jvm.Cond.selects "EchoPensModel" ({ cls := "EchoPensModel", name := "go", desc := "(I)I" } : Jvm.MethodName) ({ cls := "EchoPensModel", name := "go", desc := "(I)I" } : Jvm.MethodName)) ∈ lw_all := lw_g (lw_at lw_m6 152 rfl) rfl
theorem q1437 : (Jvm.Cond.code ({ cls := "EchoPensModel", name := "go", desc := "(I)I" } : Jvm.MethodName) prog_13_method_62_code (4 : Nat) (Option.some Jvm.ClassFile.FieldType.int)) ∈ lw_all := lw_g (lw_at lw_m6 153 rfl) rfl
theorem q1438 : (Jvm.Cond.constantLong "EchoPensModel" (249 : Nat) (30 : Int64)) ∈ lw_all := lw_g (lw_at lw_m6 154 rfl) rfl
theorem q1439 : (Jvm.Cond.methodLink "EchoPensModel" (251 : Nat) ({ cls := "EchoPensModel", name := "weeksGo", desc := "(I)V" } : Jvm.MethodName)) ∈ lw_all := lw_g (lw_at lw_m6 155 rfl) rfl
theorem q1440 : (Jvm.Cond.privateMethod ({ cls := "EchoPensModel", name := "weeksGo", desc := "(I)V" } : Jvm.MethodName)) ∈ lw_tbl := lw_at lw_m6 156 rfl
theorem q1441 : (Jvm.Cond.instanceMethod ({ cls := "EchoPensModel", name := "weeksGo", desc := "(I)V" } : Jvm.MethodName)) ∈ lw_all := lw_g (lw_at lw_m6 157 rfl) rfl
theorem q1442 : (Jvm.Cond.code ({ cls := "EchoPensModel", name := "weeksGo", desc := "(I)V" } : Jvm.MethodName) prog_13_method_46_code (3 : Nat) (Option.none : Option Jvm.ClassFile.FieldType)) ∈ lw_all := lw_g (lw_at lw_m6 158 rfl) rfl
theorem q1443 : (Jvm.Cond.methodLink "EchoPensModel" (200 : Nat) ({ cls := "EchoPensModel", name := "weekGoes", desc := "()V" } : Jvm.MethodName)) ∈ lw_all := lw_g (lw_at lw_m6 159 rfl) rfl
theorem q1444 : (Jvm.Cond.privateMethod ({ cls := "EchoPensModel", name := "weekGoes", desc := "()V" } : Jvm.MethodName)) ∈ lw_tbl := lw_at lw_m6 160 rfl
theorem q1445 : (Jvm.Cond.instanceMethod ({ cls := "EchoPensModel", name := "weekGoes", desc := "()V" } : Jvm.MethodName)) ∈ lw_all := lw_g (lw_at lw_m6 161 rfl) rfl
theorem q1446 : (Jvm.Cond.code ({ cls := "EchoPensModel", name := "weekGoes", desc := "()V" } : Jvm.MethodName) prog_13_method_44_code (4 : Nat) (Option.none : Option Jvm.ClassFile.FieldType)) ∈ lw_all := lw_g (lw_at lw_m6 162 rfl) rfl
theorem q1447 : (Jvm.Cond.methodLink "EchoPensModel" (191 : Nat) ({ cls := "EchoPensModel", name := "isWildOne", desc := "(I)Z" } : Jvm.MethodName)) ∈ lw_all := lw_g (lw_at lw_m6 163 rfl) rfl
theorem q1448 : (Jvm.Cond.privateMethod ({ cls := "EchoPensModel", name := "isWildOne", desc := "(I)Z" } : Jvm.MethodName)) ∈ lw_tbl := lw_at lw_m6 164 rfl
theorem q1449 : (Jvm.Cond.instanceMethod ({ cls := "EchoPensModel", name := "isWildOne", desc := "(I)Z" } : Jvm.MethodName)) ∈ lw_all := lw_g (lw_at lw_m6 165 rfl) rfl
theorem q1450 : (Jvm.Cond.code ({ cls := "EchoPensModel", name := "isWildOne", desc := "(I)Z" } : Jvm.MethodName) prog_13_method_41_code (2 : Nat) (Option.some Jvm.ClassFile.FieldType.boolean)) ∈ lw_all := lw_g (lw_at lw_m6 166 rfl) rfl
theorem q1451 : (Jvm.Cond.methodLink "EchoPensModel" (197 : Nat) ({ cls := "EchoPensModel", name := "growthOf", desc := "(I)I" } : Jvm.MethodName)) ∈ lw_all := lw_g (lw_at lw_m6 167 rfl) rfl
theorem q1452 : (Jvm.Cond.privateMethod ({ cls := "EchoPensModel", name := "growthOf", desc := "(I)I" } : Jvm.MethodName)) ∈ lw_tbl := lw_at lw_m6 168 rfl
theorem q1453 : (Jvm.Cond.instanceMethod ({ cls := "EchoPensModel", name := "growthOf", desc := "(I)I" } : Jvm.MethodName)) ∈ lw_all := lw_g (lw_at lw_m6 169 rfl) rfl
theorem q1454 : (Jvm.Cond.code ({ cls := "EchoPensModel", name := "growthOf", desc := "(I)I" } : Jvm.MethodName) prog_13_method_42_code (4 : Nat) (Option.some Jvm.ClassFile.FieldType.int)) ∈ lw_all := lw_g (lw_at lw_m6 170 rfl) rfl
theorem q1456 : (Jvm.Cond.instanceMethod ({ cls := "EchoPensModel", name := "ahead", desc := "(III)I" } : Jvm.MethodName)) ∈ lw_all := lw_g (lw_at lw_m6 172 rfl) rfl
theorem q1457 : (Jvm.Cond.selects "EchoPensModel" ({ cls := "EchoPensModel", name := "ahead", desc := "(III)I" } : Jvm.MethodName) ({ cls := "EchoPensModel", name := "ahead", desc := "(III)I" } : Jvm.MethodName)) ∈ lw_all := lw_g (lw_at lw_m6 173 rfl) rfl
theorem q1458 : (Jvm.Cond.code ({ cls := "EchoPensModel", name := "ahead", desc := "(III)I" } : Jvm.MethodName) prog_13_method_63_code (4 : Nat) (Option.some Jvm.ClassFile.FieldType.int)) ∈ lw_all := lw_g (lw_at lw_m6 174 rfl) rfl
theorem q1460 : (Jvm.Cond.instanceMethod ({ cls := "EchoPensModel", name := "when", desc := "(II)I" } : Jvm.MethodName)) ∈ lw_all := lw_g (lw_at lw_m6 176 rfl) rfl
theorem q1461 : (Jvm.Cond.selects "EchoPensModel" ({ cls := "EchoPensModel", name := "when", desc := "(II)I" } : Jvm.MethodName) ({ cls := "EchoPensModel", name := "when", desc := "(II)I" } : Jvm.MethodName)) ∈ lw_all := lw_g (lw_at lw_m6 177 rfl) rfl
theorem q1462 : (Jvm.Cond.code ({ cls := "EchoPensModel", name := "when", desc := "(II)I" } : Jvm.MethodName) prog_13_method_64_code (4 : Nat) (Option.some Jvm.ClassFile.FieldType.int)) ∈ lw_all := lw_g (lw_at lw_m6 178 rfl) rfl
theorem q1463 : (Jvm.Cond.methodLink "EchoPensModel" (254 : Nat) ({ cls := "EchoPensModel", name := "doesMeet", desc := "(II)Z" } : Jvm.MethodName)) ∈ lw_all := lw_g (lw_at lw_m6 179 rfl) rfl
theorem q1464 : (Jvm.Cond.privateMethod ({ cls := "EchoPensModel", name := "doesMeet", desc := "(II)Z" } : Jvm.MethodName)) ∈ lw_tbl := lw_at lw_m6 180 rfl
theorem q1465 : (Jvm.Cond.instanceMethod ({ cls := "EchoPensModel", name := "doesMeet", desc := "(II)Z" } : Jvm.MethodName)) ∈ lw_all := lw_g (lw_at lw_m6 181 rfl) rfl
theorem q1466 : (Jvm.Cond.code ({ cls := "EchoPensModel", name := "doesMeet", desc := "(II)Z" } : Jvm.MethodName) prog_13_method_49_code (3 : Nat) (Option.some Jvm.ClassFile.FieldType.boolean)) ∈ lw_all := lw_g (lw_at lw_m6 182 rfl) rfl
theorem q1467 : (Jvm.Cond.methodLink "EchoPensModel" (203 : Nat) ({ cls := "EchoPensModel", name := "isOpen", desc := "(I)Z" } : Jvm.MethodName)) ∈ lw_all := lw_g (lw_at lw_m6 183 rfl) rfl
theorem q1468 : (Jvm.Cond.privateMethod ({ cls := "EchoPensModel", name := "isOpen", desc := "(I)Z" } : Jvm.MethodName)) ∈ lw_tbl := lw_at lw_m6 184 rfl
theorem q1469 : (Jvm.Cond.instanceMethod ({ cls := "EchoPensModel", name := "isOpen", desc := "(I)Z" } : Jvm.MethodName)) ∈ lw_all := lw_g (lw_at lw_m6 185 rfl) rfl
theorem q1470 : (Jvm.Cond.code ({ cls := "EchoPensModel", name := "isOpen", desc := "(I)Z" } : Jvm.MethodName) prog_13_method_48_code (2 : Nat) (Option.some Jvm.ClassFile.FieldType.boolean)) ∈ lw_all := lw_g (lw_at lw_m6 186 rfl) rfl
theorem q1471 : (Jvm.Cond.methodLink "EchoPensModel" (206 : Nat) ({ cls := "EchoPensModel", name := "endsSo", desc := "(II)Z" } : Jvm.MethodName)) ∈ lw_all := lw_g (lw_at lw_m6 187 rfl) rfl
theorem q1472 : (Jvm.Cond.privateMethod ({ cls := "EchoPensModel", name := "endsSo", desc := "(II)Z" } : Jvm.MethodName)) ∈ lw_tbl := lw_at lw_m6 188 rfl
theorem q1473 : (Jvm.Cond.instanceMethod ({ cls := "EchoPensModel", name := "endsSo", desc := "(II)Z" } : Jvm.MethodName)) ∈ lw_all := lw_g (lw_at lw_m6 189 rfl) rfl
theorem q1474 : (Jvm.Cond.code ({ cls := "EchoPensModel", name := "endsSo", desc := "(II)Z" } : Jvm.MethodName) prog_13_method_47_code (6 : Nat) (Option.some Jvm.ClassFile.FieldType.boolean)) ∈ lw_all := lw_g (lw_at lw_m6 190 rfl) rfl
theorem q1476 : (Jvm.Cond.instanceMethod ({ cls := "EchoPensModel", name := "heard", desc := "(II)I" } : Jvm.MethodName)) ∈ lw_all := lw_g (lw_at lw_m6 192 rfl) rfl
theorem q1477 : (Jvm.Cond.selects "EchoPensModel" ({ cls := "EchoPensModel", name := "heard", desc := "(II)I" } : Jvm.MethodName) ({ cls := "EchoPensModel", name := "heard", desc := "(II)I" } : Jvm.MethodName)) ∈ lw_all := lw_g (lw_at lw_m6 193 rfl) rfl
theorem q1478 : (Jvm.Cond.code ({ cls := "EchoPensModel", name := "heard", desc := "(II)I" } : Jvm.MethodName) prog_13_method_66_code (3 : Nat) (Option.some Jvm.ClassFile.FieldType.int)) ∈ lw_all := lw_g (lw_at lw_m6 194 rfl) rfl
theorem q1479 : (Jvm.Cond.methodLink "EchoPensModel" (260 : Nat) ({ cls := "EchoPensModel", name := "heardIn", desc := "(II)I" } : Jvm.MethodName)) ∈ lw_all := lw_g (lw_at lw_m6 195 rfl) rfl
theorem q1480 : (Jvm.Cond.privateMethod ({ cls := "EchoPensModel", name := "heardIn", desc := "(II)I" } : Jvm.MethodName)) ∈ lw_tbl := lw_at lw_m6 196 rfl
theorem q1481 : (Jvm.Cond.instanceMethod ({ cls := "EchoPensModel", name := "heardIn", desc := "(II)I" } : Jvm.MethodName)) ∈ lw_all := lw_g (lw_at lw_m6 197 rfl) rfl
theorem q1482 : (Jvm.Cond.code ({ cls := "EchoPensModel", name := "heardIn", desc := "(II)I" } : Jvm.MethodName) prog_13_method_65_code (5 : Nat) (Option.some Jvm.ClassFile.FieldType.int)) ∈ lw_all := lw_g (lw_at lw_m6 198 rfl) rfl
theorem q1483 : (Jvm.Cond.methodLink "EchoPensModel" (257 : Nat) ({ cls := "EchoPensModel", name := "isHeard", desc := "(II)Z" } : Jvm.MethodName)) ∈ lw_all := lw_g (lw_at lw_m6 199 rfl) rfl
theorem q1484 : (Jvm.Cond.privateMethod ({ cls := "EchoPensModel", name := "isHeard", desc := "(II)Z" } : Jvm.MethodName)) ∈ lw_tbl := lw_at lw_m6 200 rfl
theorem q1485 : (Jvm.Cond.instanceMethod ({ cls := "EchoPensModel", name := "isHeard", desc := "(II)Z" } : Jvm.MethodName)) ∈ lw_all := lw_g (lw_at lw_m6 201 rfl) rfl
theorem q1486 : (Jvm.Cond.code ({ cls := "EchoPensModel", name := "isHeard", desc := "(II)Z" } : Jvm.MethodName) prog_13_method_38_code (5 : Nat) (Option.some Jvm.ClassFile.FieldType.boolean)) ∈ lw_all := lw_g (lw_at lw_m6 202 rfl) rfl
theorem q1487 : (Jvm.Cond.methodLink "EchoPensModel" (184 : Nat) ({ cls := "EchoPensModel", name := "lastHeard", desc := "(I)I" } : Jvm.MethodName)) ∈ lw_all := lw_g (lw_at lw_m6 203 rfl) rfl
theorem q1488 : (Jvm.Cond.privateMethod ({ cls := "EchoPensModel", name := "lastHeard", desc := "(I)I" } : Jvm.MethodName)) ∈ lw_tbl := lw_at lw_m6 204 rfl
theorem q1489 : (Jvm.Cond.instanceMethod ({ cls := "EchoPensModel", name := "lastHeard", desc := "(I)I" } : Jvm.MethodName)) ∈ lw_all := lw_g (lw_at lw_m6 205 rfl) rfl
theorem q1490 : (Jvm.Cond.code ({ cls := "EchoPensModel", name := "lastHeard", desc := "(I)I" } : Jvm.MethodName) prog_13_method_37_code (3 : Nat) (Option.some Jvm.ClassFile.FieldType.int)) ∈ lw_all := lw_g (lw_at lw_m6 206 rfl) rfl
theorem q1492 : (Jvm.Cond.instanceMethod ({ cls := "EchoPensModel", name := "together", desc := "(I)I" } : Jvm.MethodName)) ∈ lw_all := lw_g (lw_at lw_m6 208 rfl) rfl
theorem q1493 : (Jvm.Cond.selects "EchoPensModel" ({ cls := "EchoPensModel", name := "together", desc := "(I)I" } : Jvm.MethodName) ({ cls := "EchoPensModel", name := "together", desc := "(I)I" } : Jvm.MethodName)) ∈ lw_all := lw_g (lw_at lw_m6 209 rfl) rfl
theorem q1494 : (Jvm.Cond.code ({ cls := "EchoPensModel", name := "together", desc := "(I)I" } : Jvm.MethodName) prog_13_method_67_code (4 : Nat) (Option.some Jvm.ClassFile.FieldType.int)) ∈ lw_all := lw_g (lw_at lw_m6 210 rfl) rfl
theorem q1496 : (Jvm.Cond.instanceMethod ({ cls := "EchoPensModel", name := "still", desc := "(I)I" } : Jvm.MethodName)) ∈ lw_all := lw_g (lw_at lw_m6 212 rfl) rfl
theorem q1497 : (Jvm.Cond.selects "EchoPensModel" ({ cls := "EchoPensModel", name := "still", desc := "(I)I" } : Jvm.MethodName) ({ cls := "EchoPensModel", name := "still", desc := "(I)I" } : Jvm.MethodName)) ∈ lw_all := lw_g (lw_at lw_m6 213 rfl) rfl
theorem q1498 : (Jvm.Cond.code ({ cls := "EchoPensModel", name := "still", desc := "(I)I" } : Jvm.MethodName) prog_13_method_68_code (4 : Nat) (Option.some Jvm.ClassFile.FieldType.int)) ∈ lw_all := lw_g (lw_at lw_m6 214 rfl) rfl
theorem q1500 : (Jvm.Cond.instanceMethod ({ cls := "EchoPensModel", name := "meets", desc := "(I)I" } : Jvm.MethodName)) ∈ lw_all := lw_g (lw_at lw_m6 216 rfl) rfl
theorem q1501 : (Jvm.Cond.selects "EchoPensModel" ({ cls := "EchoPensModel", name := "meets", desc := "(I)I" } : Jvm.MethodName) ({ cls := "EchoPensModel", name := "meets", desc := "(I)I" } : Jvm.MethodName)) ∈ lw_all := lw_g (lw_at lw_m6 217 rfl) rfl
theorem q1502 : (Jvm.Cond.code ({ cls := "EchoPensModel", name := "meets", desc := "(I)I" } : Jvm.MethodName) prog_13_method_69_code (4 : Nat) (Option.some Jvm.ClassFile.FieldType.int)) ∈ lw_all := lw_g (lw_at lw_m6 218 rfl) rfl
theorem q1504 : (Jvm.Cond.instanceMethod ({ cls := "EchoPensModel", name := "sell", desc := "(II)I" } : Jvm.MethodName)) ∈ lw_all := lw_g (lw_at lw_m6 220 rfl) rfl
theorem q1505 : (Jvm.Cond.selects "EchoPensModel" ({ cls := "EchoPensModel", name := "sell", desc := "(II)I" } : Jvm.MethodName) ({ cls := "EchoPensModel", name := "sell", desc := "(II)I" } : Jvm.MethodName)) ∈ lw_all := lw_g (lw_at lw_m6 221 rfl) rfl
theorem q1506 : (Jvm.Cond.code ({ cls := "EchoPensModel", name := "sell", desc := "(II)I" } : Jvm.MethodName) prog_13_method_70_code (3 : Nat) (Option.some Jvm.ClassFile.FieldType.int)) ∈ lw_all := lw_g (lw_at lw_m6 222 rfl) rfl
theorem q1508 : (Jvm.Cond.instanceMethod ({ cls := "EchoPensModel", name := "sale", desc := "(I)I" } : Jvm.MethodName)) ∈ lw_all := lw_g (lw_at lw_m6 224 rfl) rfl
theorem q1509 : (Jvm.Cond.selects "EchoPensModel" ({ cls := "EchoPensModel", name := "sale", desc := "(I)I" } : Jvm.MethodName) ({ cls := "EchoPensModel", name := "sale", desc := "(I)I" } : Jvm.MethodName)) ∈ lw_all := lw_g (lw_at lw_m6 225 rfl) rfl
theorem q1510 : (Jvm.Cond.code ({ cls := "EchoPensModel", name := "sale", desc := "(I)I" } : Jvm.MethodName) prog_13_method_76_code (4 : Nat) (Option.some Jvm.ClassFile.FieldType.int)) ∈ lw_all := lw_g (lw_at lw_m6 226 rfl) rfl
theorem q1511 : (Jvm.Cond.methodLink "EchoPensModel" (275 : Nat) ({ cls := "EchoPensModel", name := "bestSale", desc := "()I" } : Jvm.MethodName)) ∈ lw_all := lw_g (lw_at lw_m6 227 rfl) rfl
theorem q1512 : (Jvm.Cond.privateMethod ({ cls := "EchoPensModel", name := "bestSale", desc := "()I" } : Jvm.MethodName)) ∈ lw_tbl := lw_at lw_m6 228 rfl
theorem q1513 : (Jvm.Cond.instanceMethod ({ cls := "EchoPensModel", name := "bestSale", desc := "()I" } : Jvm.MethodName)) ∈ lw_all := lw_g (lw_at lw_m6 229 rfl) rfl
theorem q1514 : (Jvm.Cond.code ({ cls := "EchoPensModel", name := "bestSale", desc := "()I" } : Jvm.MethodName) prog_13_method_75_code (4 : Nat) (Option.some Jvm.ClassFile.FieldType.int)) ∈ lw_all := lw_g (lw_at lw_m6 230 rfl) rfl
theorem q1515 : (Jvm.Cond.methodLink "EchoPensModel" (266 : Nat) ({ cls := "EchoPensModel", name := "findMeeting", desc := "()V" } : Jvm.MethodName)) ∈ lw_all := lw_g (lw_at lw_m6 231 rfl) rfl
theorem q1516 : (Jvm.Cond.privateMethod ({ cls := "EchoPensModel", name := "findMeeting", desc := "()V" } : Jvm.MethodName)) ∈ lw_tbl := lw_at lw_m6 232 rfl
theorem q1517 : (Jvm.Cond.instanceMethod ({ cls := "EchoPensModel", name := "findMeeting", desc := "()V" } : Jvm.MethodName)) ∈ lw_all := lw_g (lw_at lw_m6 233 rfl) rfl
theorem q1518 : (Jvm.Cond.code ({ cls := "EchoPensModel", name := "findMeeting", desc := "()V" } : Jvm.MethodName) prog_13_method_73_code (3 : Nat) (Option.none : Option Jvm.ClassFile.FieldType)) ∈ lw_all := lw_g (lw_at lw_m6 234 rfl) rfl
theorem q1519 : (Jvm.Cond.methodLink "EchoPensModel" (263 : Nat) ({ cls := "EchoPensModel", name := "power", desc := "(II)I" } : Jvm.MethodName)) ∈ lw_all := lw_g (lw_at lw_m6 235 rfl) rfl
theorem q1520 : (Jvm.Cond.static ({ cls := "EchoPensModel", name := "power", desc := "(II)I" } : Jvm.MethodName)) ∈ lw_all := lw_g (lw_at lw_m6 236 rfl) rfl
theorem q1521 : (Jvm.Cond.code ({ cls := "EchoPensModel", name := "power", desc := "(II)I" } : Jvm.MethodName) prog_13_method_71_code (4 : Nat) (Option.some Jvm.ClassFile.FieldType.int)) ∈ lw_all := lw_g (lw_at lw_m6 237 rfl) rfl
theorem q1522 : (Jvm.Cond.methodLink "EchoPensModel" (269 : Nat) ({ cls := "EchoPensModel", name := "earned", desc := "(I)I" } : Jvm.MethodName)) ∈ lw_all := lw_g (lw_at lw_m6 238 rfl) rfl
theorem q1523 : (Jvm.Cond.privateMethod ({ cls := "EchoPensModel", name := "earned", desc := "(I)I" } : Jvm.MethodName)) ∈ lw_tbl := lw_at lw_m6 239 rfl
theorem q1524 : (Jvm.Cond.instanceMethod ({ cls := "EchoPensModel", name := "earned", desc := "(I)I" } : Jvm.MethodName)) ∈ lw_all := lw_g (lw_at lw_m7 0 rfl) rfl
theorem q1525 : (Jvm.Cond.code ({ cls := "EchoPensModel", name := "earned", desc := "(I)I" } : Jvm.MethodName) prog_13_method_74_code (7 : Nat) (Option.some Jvm.ClassFile.FieldType.int)) ∈ lw_all := lw_g (lw_at lw_m7 1 rfl) rfl
theorem q1526 : (Jvm.Cond.methodLink "EchoPensModel" (278 : Nat) ({ cls := "EchoPensModel", name := "buyerOf", desc := "(II)I" } : Jvm.MethodName)) ∈ lw_all := lw_g (lw_at lw_m7 2 rfl) rfl
theorem q1527 : (Jvm.Cond.privateMethod ({ cls := "EchoPensModel", name := "buyerOf", desc := "(II)I" } : Jvm.MethodName)) ∈ lw_tbl := lw_at lw_m7 3 rfl
theorem q1528 : (Jvm.Cond.instanceMethod ({ cls := "EchoPensModel", name := "buyerOf", desc := "(II)I" } : Jvm.MethodName)) ∈ lw_all := lw_g (lw_at lw_m7 4 rfl) rfl
theorem q1529 : (Jvm.Cond.code ({ cls := "EchoPensModel", name := "buyerOf", desc := "(II)I" } : Jvm.MethodName) prog_13_method_72_code (3 : Nat) (Option.some Jvm.ClassFile.FieldType.int)) ∈ lw_all := lw_g (lw_at lw_m7 5 rfl) rfl
theorem q1531 : (Jvm.Cond.instanceMethod ({ cls := "EchoPensModel", name := "best", desc := "(II)I" } : Jvm.MethodName)) ∈ lw_all := lw_g (lw_at lw_m7 7 rfl) rfl
theorem q1532 : (Jvm.Cond.selects "EchoPensModel" ({ cls := "EchoPensModel", name := "best", desc := "(II)I" } : Jvm.MethodName) ({ cls := "EchoPensModel", name := "best", desc := "(II)I" } : Jvm.MethodName)) ∈ lw_all := lw_g (lw_at lw_m7 8 rfl) rfl
theorem q1533 : (Jvm.Cond.code ({ cls := "EchoPensModel", name := "best", desc := "(II)I" } : Jvm.MethodName) prog_13_method_79_code (7 : Nat) (Option.some Jvm.ClassFile.FieldType.int)) ∈ lw_all := lw_g (lw_at lw_m7 9 rfl) rfl
theorem q1534 : (Jvm.Cond.constantLong "EchoPensModel" (281 : Nat) (8 : Int64)) ∈ lw_all := lw_g (lw_at lw_m7 10 rfl) rfl
theorem q1535 : (Jvm.Cond.methodLink "EchoPensModel" (283 : Nat) ({ cls := "EchoPensModel", name := "droves", desc := "()I" } : Jvm.MethodName)) ∈ lw_all := lw_g (lw_at lw_m7 11 rfl) rfl
theorem q1536 : (Jvm.Cond.privateMethod ({ cls := "EchoPensModel", name := "droves", desc := "()I" } : Jvm.MethodName)) ∈ lw_tbl := lw_at lw_m7 12 rfl
theorem q1537 : (Jvm.Cond.instanceMethod ({ cls := "EchoPensModel", name := "droves", desc := "()I" } : Jvm.MethodName)) ∈ lw_all := lw_g (lw_at lw_m7 13 rfl) rfl
theorem q1538 : (Jvm.Cond.code ({ cls := "EchoPensModel", name := "droves", desc := "()I" } : Jvm.MethodName) prog_13_method_77_code (3 : Nat) (Option.some Jvm.ClassFile.FieldType.int)) ∈ lw_all := lw_g (lw_at lw_m7 14 rfl) rfl
theorem q1539 : (Jvm.Cond.methodLink "EchoPensModel" (286 : Nat) ({ cls := "EchoPensModel", name := "drivesBy", desc := "(I)Z" } : Jvm.MethodName)) ∈ lw_all := lw_g (lw_at lw_m7 15 rfl) rfl
theorem q1540 : (Jvm.Cond.privateMethod ({ cls := "EchoPensModel", name := "drivesBy", desc := "(I)Z" } : Jvm.MethodName)) ∈ lw_tbl := lw_at lw_m7 16 rfl
theorem q1541 : (Jvm.Cond.instanceMethod ({ cls := "EchoPensModel", name := "drivesBy", desc := "(I)Z" } : Jvm.MethodName)) ∈ lw_all := lw_g (lw_at lw_m7 17 rfl) rfl
theorem q1542 : (Jvm.Cond.code ({ cls := "EchoPensModel", name := "drivesBy", desc := "(I)Z" } : Jvm.MethodName) prog_13_method_78_code (5 : Nat) (Option.some Jvm.ClassFile.FieldType.boolean)) ∈ lw_all := lw_g (lw_at lw_m7 18 rfl) rfl
theorem q1544 : (Jvm.Cond.instanceMethod ({ cls := "EchoPensModel", name := "near", desc := "(I)I" } : Jvm.MethodName)) ∈ lw_all := lw_g (lw_at lw_m7 20 rfl) rfl
theorem q1545 : (Jvm.Cond.selects "EchoPensModel" ({ cls := "EchoPensModel", name := "near", desc := "(I)I" } : Jvm.MethodName) ({ cls := "EchoPensModel", name := "near", desc := "(I)I" } : Jvm.MethodName)) ∈ lw_all := lw_g (lw_at lw_m7 21 rfl) rfl
theorem q1546 : (Jvm.Cond.code ({ cls := "EchoPensModel", name := "near", desc := "(I)I" } : Jvm.MethodName) prog_13_method_80_code (7 : Nat) (Option.some Jvm.ClassFile.FieldType.int)) ∈ lw_all := lw_g (lw_at lw_m7 22 rfl) rfl
theorem q1547 : (Jvm.Cond.constant "EchoPensModel" (289 : Nat) (1000000000 : Int32)) ∈ lw_all := lw_g (lw_at lw_m7 23 rfl) rfl
theorem q1549 : (Jvm.Cond.instanceMethod ({ cls := "EchoPensModel", name := "keeps", desc := "(IIII)J" } : Jvm.MethodName)) ∈ lw_all := lw_g (lw_at lw_m7 25 rfl) rfl
theorem q1550 : (Jvm.Cond.selects "EchoPensModel" ({ cls := "EchoPensModel", name := "keeps", desc := "(IIII)J" } : Jvm.MethodName) ({ cls := "EchoPensModel", name := "keeps", desc := "(IIII)J" } : Jvm.MethodName)) ∈ lw_all := lw_g (lw_at lw_m7 26 rfl) rfl
theorem q1551 : (Jvm.Cond.code ({ cls := "EchoPensModel", name := "keeps", desc := "(IIII)J" } : Jvm.MethodName) prog_13_method_84_code (5 : Nat) (Option.some Jvm.ClassFile.FieldType.long)) ∈ lw_all := lw_g (lw_at lw_m7 27 rfl) rfl
theorem q1552 : (Jvm.Cond.constantLong "EchoPensModel" (304 : Nat) (10 : Int64)) ∈ lw_all := lw_g (lw_at lw_m7 28 rfl) rfl
theorem q1553 : (Jvm.Cond.constantLong "EchoPensModel" (306 : Nat) (6 : Int64)) ∈ lw_all := lw_g (lw_at lw_m7 29 rfl) rfl
theorem q1554 : (Jvm.Cond.constantLong "EchoPensModel" (308 : Nat) (-1 : Int64)) ∈ lw_all := lw_g (lw_at lw_m7 30 rfl) rfl
theorem q1555 : (Jvm.Cond.methodLink "EchoPensModel" (310 : Nat) ({ cls := "EchoPensModel", name := "findKept", desc := "(III)V" } : Jvm.MethodName)) ∈ lw_all := lw_g (lw_at lw_m7 31 rfl) rfl
theorem q1556 : (Jvm.Cond.privateMethod ({ cls := "EchoPensModel", name := "findKept", desc := "(III)V" } : Jvm.MethodName)) ∈ lw_tbl := lw_at lw_m7 32 rfl
theorem q1557 : (Jvm.Cond.instanceMethod ({ cls := "EchoPensModel", name := "findKept", desc := "(III)V" } : Jvm.MethodName)) ∈ lw_all := lw_g (lw_at lw_m7 33 rfl) rfl
theorem q1558 : (Jvm.Cond.code ({ cls := "EchoPensModel", name := "findKept", desc := "(III)V" } : Jvm.MethodName) prog_13_method_83_code (11 : Nat) (Option.none : Option Jvm.ClassFile.FieldType)) ∈ lw_all := lw_g (lw_at lw_m7 34 rfl) rfl
theorem q1559 : (Jvm.Cond.methodLink "EchoPensModel" (313 : Nat) ({ cls := "EchoPensModel", name := "told", desc := "(JJI)J" } : Jvm.MethodName)) ∈ lw_all := lw_g (lw_at lw_m7 35 rfl) rfl
theorem q1560 : (Jvm.Cond.static ({ cls := "EchoPensModel", name := "told", desc := "(JJI)J" } : Jvm.MethodName)) ∈ lw_all := lw_g (lw_at lw_m7 36 rfl) rfl
theorem q1561 : (Jvm.Cond.code ({ cls := "EchoPensModel", name := "told", desc := "(JJI)J" } : Jvm.MethodName) prog_13_method_82_code (7 : Nat) (Option.some Jvm.ClassFile.FieldType.long)) ∈ lw_all := lw_g (lw_at lw_m7 37 rfl) rfl
theorem q1562 : (Jvm.Cond.methodLink "EchoPensModel" (290 : Nat) ({ cls := "EchoPensModel", name := "common", desc := "(JJ)J" } : Jvm.MethodName)) ∈ lw_all := lw_g (lw_at lw_m7 38 rfl) rfl
theorem q1563 : (Jvm.Cond.static ({ cls := "EchoPensModel", name := "common", desc := "(JJ)J" } : Jvm.MethodName)) ∈ lw_all := lw_g (lw_at lw_m7 39 rfl) rfl
theorem q1564 : (Jvm.Cond.code ({ cls := "EchoPensModel", name := "common", desc := "(JJ)J" } : Jvm.MethodName) prog_13_method_81_code (10 : Nat) (Option.some Jvm.ClassFile.FieldType.long)) ∈ lw_all := lw_g (lw_at lw_m7 40 rfl) rfl
theorem q1566 : (Jvm.Cond.instanceMethod ({ cls := "EchoPensModel", name := "mean", desc := "(IIII)J" } : Jvm.MethodName)) ∈ lw_all := lw_g (lw_at lw_m7 42 rfl) rfl
theorem q1567 : (Jvm.Cond.selects "EchoPensModel" ({ cls := "EchoPensModel", name := "mean", desc := "(IIII)J" } : Jvm.MethodName) ({ cls := "EchoPensModel", name := "mean", desc := "(IIII)J" } : Jvm.MethodName)) ∈ lw_all := lw_g (lw_at lw_m7 43 rfl) rfl
theorem q1568 : (Jvm.Cond.code ({ cls := "EchoPensModel", name := "mean", desc := "(IIII)J" } : Jvm.MethodName) prog_13_method_85_code (5 : Nat) (Option.some Jvm.ClassFile.FieldType.long)) ∈ lw_all := lw_g (lw_at lw_m7 44 rfl) rfl
theorem q1570 : (Jvm.Cond.instanceMethod ({ cls := "EchoPensModel", name := "see", desc := "(III)I" } : Jvm.MethodName)) ∈ lw_all := lw_g (lw_at lw_m7 46 rfl) rfl
theorem q1571 : (Jvm.Cond.selects "EchoPensModel" ({ cls := "EchoPensModel", name := "see", desc := "(III)I" } : Jvm.MethodName) ({ cls := "EchoPensModel", name := "see", desc := "(III)I" } : Jvm.MethodName)) ∈ lw_all := lw_g (lw_at lw_m7 47 rfl) rfl
theorem q1572 : (Jvm.Cond.code ({ cls := "EchoPensModel", name := "see", desc := "(III)I" } : Jvm.MethodName) prog_13_method_86_code (5 : Nat) (Option.some Jvm.ClassFile.FieldType.int)) ∈ lw_all := lw_g (lw_at lw_m7 48 rfl) rfl
theorem q1573 : (Jvm.Cond.constantLong "EchoPensModel" (317 : Nat) (5 : Int64)) ∈ lw_all := lw_g (lw_at lw_m7 49 rfl) rfl
theorem q1575 : (Jvm.Cond.instanceMethod ({ cls := "EchoPensModel", name := "forget", desc := "(I)I" } : Jvm.MethodName)) ∈ lw_all := lw_g (lw_at lw_m7 51 rfl) rfl
theorem q1576 : (Jvm.Cond.selects "EchoPensModel" ({ cls := "EchoPensModel", name := "forget", desc := "(I)I" } : Jvm.MethodName) ({ cls := "EchoPensModel", name := "forget", desc := "(I)I" } : Jvm.MethodName)) ∈ lw_all := lw_g (lw_at lw_m7 52 rfl) rfl
theorem q1577 : (Jvm.Cond.code ({ cls := "EchoPensModel", name := "forget", desc := "(I)I" } : Jvm.MethodName) prog_13_method_87_code (2 : Nat) (Option.some Jvm.ClassFile.FieldType.int)) ∈ lw_all := lw_g (lw_at lw_m7 53 rfl) rfl
theorem q1579 : (Jvm.Cond.instanceMethod ({ cls := "EchoPensModel", name := "fits", desc := "(I)I" } : Jvm.MethodName)) ∈ lw_all := lw_g (lw_at lw_m7 55 rfl) rfl
theorem q1580 : (Jvm.Cond.selects "EchoPensModel" ({ cls := "EchoPensModel", name := "fits", desc := "(I)I" } : Jvm.MethodName) ({ cls := "EchoPensModel", name := "fits", desc := "(I)I" } : Jvm.MethodName)) ∈ lw_all := lw_g (lw_at lw_m7 56 rfl) rfl
theorem q1581 : (Jvm.Cond.code ({ cls := "EchoPensModel", name := "fits", desc := "(I)I" } : Jvm.MethodName) prog_13_method_89_code (6 : Nat) (Option.some Jvm.ClassFile.FieldType.int)) ∈ lw_all := lw_g (lw_at lw_m7 57 rfl) rfl
theorem q1582 : (Jvm.Cond.methodLink "EchoPensModel" (319 : Nat) ({ cls := "EchoPensModel", name := "isSo", desc := "(I)Z" } : Jvm.MethodName)) ∈ lw_all := lw_g (lw_at lw_m7 58 rfl) rfl
theorem q1583 : (Jvm.Cond.privateMethod ({ cls := "EchoPensModel", name := "isSo", desc := "(I)Z" } : Jvm.MethodName)) ∈ lw_tbl := lw_at lw_m7 59 rfl
theorem q1584 : (Jvm.Cond.instanceMethod ({ cls := "EchoPensModel", name := "isSo", desc := "(I)Z" } : Jvm.MethodName)) ∈ lw_all := lw_g (lw_at lw_m7 60 rfl) rfl
theorem q1585 : (Jvm.Cond.code ({ cls := "EchoPensModel", name := "isSo", desc := "(I)Z" } : Jvm.MethodName) prog_13_method_88_code (5 : Nat) (Option.some Jvm.ClassFile.FieldType.boolean)) ∈ lw_all := lw_g (lw_at lw_m7 61 rfl) rfl
theorem q1587 : (Jvm.Cond.instanceMethod ({ cls := "EchoPensModel", name := "listen", desc := "(II)I" } : Jvm.MethodName)) ∈ lw_all := lw_g (lw_at lw_m7 63 rfl) rfl
theorem q1588 : (Jvm.Cond.selects "EchoPensModel" ({ cls := "EchoPensModel", name := "listen", desc := "(II)I" } : Jvm.MethodName) ({ cls := "EchoPensModel", name := "listen", desc := "(II)I" } : Jvm.MethodName)) ∈ lw_all := lw_g (lw_at lw_m7 64 rfl) rfl
theorem q1589 : (Jvm.Cond.code ({ cls := "EchoPensModel", name := "listen", desc := "(II)I" } : Jvm.MethodName) prog_13_method_90_code (8 : Nat) (Option.some Jvm.ClassFile.FieldType.int)) ∈ lw_all := lw_g (lw_at lw_m7 65 rfl) rfl
theorem q1591 : (Jvm.Cond.instanceMethod ({ cls := "EchoPensModel", name := "drift", desc := "(III)I" } : Jvm.MethodName)) ∈ lw_all := lw_g (lw_at lw_m7 67 rfl) rfl
theorem q1592 : (Jvm.Cond.selects "EchoPensModel" ({ cls := "EchoPensModel", name := "drift", desc := "(III)I" } : Jvm.MethodName) ({ cls := "EchoPensModel", name := "drift", desc := "(III)I" } : Jvm.MethodName)) ∈ lw_all := lw_g (lw_at lw_m7 68 rfl) rfl
theorem q1593 : (Jvm.Cond.code ({ cls := "EchoPensModel", name := "drift", desc := "(III)I" } : Jvm.MethodName) prog_13_method_92_code (7 : Nat) (Option.some Jvm.ClassFile.FieldType.int)) ∈ lw_all := lw_g (lw_at lw_m7 69 rfl) rfl
theorem q1594 : (Jvm.Cond.constant "EchoPensModel" (322 : Nat) (1103515245 : Int32)) ∈ lw_all := lw_g (lw_at lw_m7 70 rfl) rfl
theorem q1595 : (Jvm.Cond.methodLink "EchoPensModel" (323 : Nat) ({ cls := "EchoPensModel", name := "allOf", desc := "(I)I" } : Jvm.MethodName)) ∈ lw_all := lw_g (lw_at lw_m7 71 rfl) rfl
theorem q1596 : (Jvm.Cond.privateMethod ({ cls := "EchoPensModel", name := "allOf", desc := "(I)I" } : Jvm.MethodName)) ∈ lw_tbl := lw_at lw_m7 72 rfl
theorem q1597 : (Jvm.Cond.instanceMethod ({ cls := "EchoPensModel", name := "allOf", desc := "(I)I" } : Jvm.MethodName)) ∈ lw_all := lw_g (lw_at lw_m7 73 rfl) rfl
theorem q1598 : (Jvm.Cond.code ({ cls := "EchoPensModel", name := "allOf", desc := "(I)I" } : Jvm.MethodName) prog_13_method_91_code (4 : Nat) (Option.some Jvm.ClassFile.FieldType.int)) ∈ lw_all := lw_g (lw_at lw_m7 74 rfl) rfl
theorem q1600 : (Jvm.Cond.instanceMethod ({ cls := "EchoPensModel", name := "keep", desc := "(I)I" } : Jvm.MethodName)) ∈ lw_all := lw_g (lw_at lw_m7 76 rfl) rfl
theorem q1601 : (Jvm.Cond.selects "EchoPensModel" ({ cls := "EchoPensModel", name := "keep", desc := "(I)I" } : Jvm.MethodName) ({ cls := "EchoPensModel", name := "keep", desc := "(I)I" } : Jvm.MethodName)) ∈ lw_all := lw_g (lw_at lw_m7 77 rfl) rfl
theorem q1602 : (Jvm.Cond.code ({ cls := "EchoPensModel", name := "keep", desc := "(I)I" } : Jvm.MethodName) prog_13_method_94_code (3 : Nat) (Option.some Jvm.ClassFile.FieldType.int)) ∈ lw_all := lw_g (lw_at lw_m7 78 rfl) rfl
theorem q1603 : (Jvm.Cond.methodLink "EchoPensModel" (326 : Nat) ({ cls := "EchoPensModel", name := "copies", desc := "(II)V" } : Jvm.MethodName)) ∈ lw_all := lw_g (lw_at lw_m7 79 rfl) rfl
theorem q1604 : (Jvm.Cond.privateMethod ({ cls := "EchoPensModel", name := "copies", desc := "(II)V" } : Jvm.MethodName)) ∈ lw_tbl := lw_at lw_m7 80 rfl
theorem q1605 : (Jvm.Cond.instanceMethod ({ cls := "EchoPensModel", name := "copies", desc := "(II)V" } : Jvm.MethodName)) ∈ lw_all := lw_g (lw_at lw_m7 81 rfl) rfl
theorem q1606 : (Jvm.Cond.code ({ cls := "EchoPensModel", name := "copies", desc := "(II)V" } : Jvm.MethodName) prog_13_method_93_code (4 : Nat) (Option.none : Option Jvm.ClassFile.FieldType)) ∈ lw_all := lw_g (lw_at lw_m7 82 rfl) rfl
theorem q1608 : (Jvm.Cond.instanceMethod ({ cls := "EchoPensModel", name := "back", desc := "(I)I" } : Jvm.MethodName)) ∈ lw_all := lw_g (lw_at lw_m7 84 rfl) rfl
theorem q1609 : (Jvm.Cond.selects "EchoPensModel" ({ cls := "EchoPensModel", name := "back", desc := "(I)I" } : Jvm.MethodName) ({ cls := "EchoPensModel", name := "back", desc := "(I)I" } : Jvm.MethodName)) ∈ lw_all := lw_g (lw_at lw_m7 85 rfl) rfl
theorem q1610 : (Jvm.Cond.code ({ cls := "EchoPensModel", name := "back", desc := "(I)I" } : Jvm.MethodName) prog_13_method_95_code (2 : Nat) (Option.some Jvm.ClassFile.FieldType.int)) ∈ lw_all := lw_g (lw_at lw_m7 86 rfl) rfl
theorem q1612 : (Jvm.Cond.instanceMethod ({ cls := "EchoPensModel", name := "sheet", desc := "(III)I" } : Jvm.MethodName)) ∈ lw_all := lw_g (lw_at lw_m7 88 rfl) rfl
theorem q1613 : (Jvm.Cond.selects "EchoPensModel" ({ cls := "EchoPensModel", name := "sheet", desc := "(III)I" } : Jvm.MethodName) ({ cls := "EchoPensModel", name := "sheet", desc := "(III)I" } : Jvm.MethodName)) ∈ lw_all := lw_g (lw_at lw_m7 89 rfl) rfl
theorem q1614 : (Jvm.Cond.code ({ cls := "EchoPensModel", name := "sheet", desc := "(III)I" } : Jvm.MethodName) prog_13_method_97_code (5 : Nat) (Option.some Jvm.ClassFile.FieldType.int)) ∈ lw_all := lw_g (lw_at lw_m7 90 rfl) rfl
theorem q1615 : (Jvm.Cond.methodLink "EchoPensModel" (330 : Nat) ({ cls := "EchoPensModel", name := "isSheet", desc := "(II)Z" } : Jvm.MethodName)) ∈ lw_all := lw_g (lw_at lw_m7 91 rfl) rfl
theorem q1616 : (Jvm.Cond.static ({ cls := "EchoPensModel", name := "isSheet", desc := "(II)Z" } : Jvm.MethodName)) ∈ lw_all := lw_g (lw_at lw_m7 92 rfl) rfl
theorem q1617 : (Jvm.Cond.code ({ cls := "EchoPensModel", name := "isSheet", desc := "(II)Z" } : Jvm.MethodName) prog_13_method_96_code (2 : Nat) (Option.some Jvm.ClassFile.FieldType.boolean)) ∈ lw_all := lw_g (lw_at lw_m7 93 rfl) rfl
theorem q1619 : (Jvm.Cond.instanceMethod ({ cls := "EchoPensModel", name := "lay", desc := "(III)I" } : Jvm.MethodName)) ∈ lw_all := lw_g (lw_at lw_m7 95 rfl) rfl
theorem q1620 : (Jvm.Cond.selects "EchoPensModel" ({ cls := "EchoPensModel", name := "lay", desc := "(III)I" } : Jvm.MethodName) ({ cls := "EchoPensModel", name := "lay", desc := "(III)I" } : Jvm.MethodName)) ∈ lw_all := lw_g (lw_at lw_m7 96 rfl) rfl
theorem q1621 : (Jvm.Cond.code ({ cls := "EchoPensModel", name := "lay", desc := "(III)I" } : Jvm.MethodName) prog_13_method_98_code (4 : Nat) (Option.some Jvm.ClassFile.FieldType.int)) ∈ lw_all := lw_g (lw_at lw_m7 97 rfl) rfl
theorem q1623 : (Jvm.Cond.instanceMethod ({ cls := "EchoPensModel", name := "read", desc := "(IIII)I" } : Jvm.MethodName)) ∈ lw_all := lw_g (lw_at lw_m7 99 rfl) rfl
theorem q1624 : (Jvm.Cond.selects "EchoPensModel" ({ cls := "EchoPensModel", name := "read", desc := "(IIII)I" } : Jvm.MethodName) ({ cls := "EchoPensModel", name := "read", desc := "(IIII)I" } : Jvm.MethodName)) ∈ lw_all := lw_g (lw_at lw_m7 100 rfl) rfl
theorem q1625 : (Jvm.Cond.code ({ cls := "EchoPensModel", name := "read", desc := "(IIII)I" } : Jvm.MethodName) prog_13_method_99_code (11 : Nat) (Option.some Jvm.ClassFile.FieldType.int)) ∈ lw_all := lw_g (lw_at lw_m7 101 rfl) rfl
theorem q1626 : (Jvm.Cond.constantLong "EchoPensModel" (333 : Nat) (20 : Int64)) ∈ lw_all := lw_g (lw_at lw_m7 102 rfl) rfl
theorem q1627 : (Jvm.Cond.methodLink "EchoPensModel" (335 : Nat) ({ cls := "EchoPensModel", name := "drive", desc := "(II)I" } : Jvm.MethodName)) ∈ lw_all := lw_g (lw_at lw_m7 103 rfl) rfl
theorem q1629 : (Jvm.Cond.instanceMethod ({ cls := "EchoPensModel", name := "torn", desc := "()I" } : Jvm.MethodName)) ∈ lw_all := lw_g (lw_at lw_m7 105 rfl) rfl
theorem q1630 : (Jvm.Cond.selects "EchoPensModel" ({ cls := "EchoPensModel", name := "torn", desc := "()I" } : Jvm.MethodName) ({ cls := "EchoPensModel", name := "torn", desc := "()I" } : Jvm.MethodName)) ∈ lw_all := lw_g (lw_at lw_m7 106 rfl) rfl
theorem q1631 : (Jvm.Cond.code ({ cls := "EchoPensModel", name := "torn", desc := "()I" } : Jvm.MethodName) prog_13_method_100_code (1 : Nat) (Option.some Jvm.ClassFile.FieldType.int)) ∈ lw_all := lw_g (lw_at lw_m7 107 rfl) rfl
theorem q1633 : (Jvm.Cond.instanceMethod ({ cls := "EchoPensModel", name := "count", desc := "(I)I" } : Jvm.MethodName)) ∈ lw_all := lw_g (lw_at lw_m7 109 rfl) rfl
theorem q1634 : (Jvm.Cond.selects "EchoPensModel" ({ cls := "EchoPensModel", name := "count", desc := "(I)I" } : Jvm.MethodName) ({ cls := "EchoPensModel", name := "count", desc := "(I)I" } : Jvm.MethodName)) ∈ lw_all := lw_g (lw_at lw_m7 110 rfl) rfl
theorem q1635 : (Jvm.Cond.code ({ cls := "EchoPensModel", name := "count", desc := "(I)I" } : Jvm.MethodName) prog_13_method_101_code (2 : Nat) (Option.some Jvm.ClassFile.FieldType.int)) ∈ lw_all := lw_g (lw_at lw_m7 111 rfl) rfl
theorem in_X4 : ∀ w ∈ wsX40, w ∈ lw_all := lw_in wsX40 [1171, 1173, 1175, 1177, 1179, 1181, 1183, 1185, 1187, 1189, 1191, 1193, 1195, 1197, 1199, 1201, 1203, 1205, 1207, 1209, 1211, 1213, 1215, 1217, 1219, 1221, 1223, 1225, 1227, 1229, 1231, 1233] (by decide +kernel) (by decide +kernel)
