/-! java/lang/Integer -/
set_option maxRecDepth 100000
def RJ9 : String := "java/lang/Integer"
abbrev cJ9_bitCount : ByteArray := prog_19_method_49_code
def yJ9_bitCount : MethodName := ⟨RJ9, "bitCount", "(I)I"⟩
def dkwJ9_bitCount_2 : List UInt8 := [26, 16, 63, 126, 172]
abbrev dktJ9_bitCount_2 : List UInt8 := dkwJ9_bitCount_2 ++ []
def dkwJ9_bitCount_1 : List UInt8 := [26, 26, 7, 124, 96, 19, 1, 11, 126, 59, 26, 26, 16, 8, 124, 96, 59, 26, 26, 16, 16, 124, 96, 59]
abbrev dktJ9_bitCount_1 : List UInt8 := dkwJ9_bitCount_1 ++ dktJ9_bitCount_2
def dkwJ9_bitCount_0 : List UInt8 := [26, 26, 4, 124, 19, 1, 9, 126, 100, 59, 26, 19, 1, 10, 126, 26, 5, 124, 19, 1, 10, 126, 96, 59]
abbrev dktJ9_bitCount_0 : List UInt8 := dkwJ9_bitCount_0 ++ dktJ9_bitCount_1
theorem dksJ9_bitCount_0 : cJ9_bitCount.data.toList.drop 0 = dktJ9_bitCount_0 := by decide +kernel
theorem dksJ9_bitCount_1 : cJ9_bitCount.data.toList.drop 24 = dktJ9_bitCount_1 := dk_seg dksJ9_bitCount_0 24 rfl rfl
theorem dksJ9_bitCount_2 : cJ9_bitCount.data.toList.drop 48 = dktJ9_bitCount_2 := dk_seg dksJ9_bitCount_1 24 rfl rfl
theorem dJ9_bitCount_0 : decode cJ9_bitCount 0 = .ok (.iload_n 0, 1) := dk_26 (dk_at dksJ9_bitCount_0 0 rfl rfl)
theorem dJ9_bitCount_1 : decode cJ9_bitCount 1 = .ok (.iload_n 0, 1) := dk_26 (dk_at dksJ9_bitCount_0 1 rfl rfl)
theorem dJ9_bitCount_2 : decode cJ9_bitCount 2 = .ok (.iconst 1, 1) := dk_4 (dk_at dksJ9_bitCount_0 2 rfl rfl)
theorem dJ9_bitCount_3 : decode cJ9_bitCount 3 = .ok (.iushr, 1) := dk_124 (dk_at dksJ9_bitCount_0 3 rfl rfl)
theorem dJ9_bitCount_4 : decode cJ9_bitCount 4 = .ok (.ldc_w 265, 3) := dk_19 1 9 (dk_at dksJ9_bitCount_0 4 rfl rfl)
theorem dJ9_bitCount_7 : decode cJ9_bitCount 7 = .ok (.iand, 1) := dk_126 (dk_at dksJ9_bitCount_0 7 rfl rfl)
theorem dJ9_bitCount_8 : decode cJ9_bitCount 8 = .ok (.isub, 1) := dk_100 (dk_at dksJ9_bitCount_0 8 rfl rfl)
theorem dJ9_bitCount_9 : decode cJ9_bitCount 9 = .ok (.istore_n 0, 1) := dk_59 (dk_at dksJ9_bitCount_0 9 rfl rfl)
theorem dJ9_bitCount_10 : decode cJ9_bitCount 10 = .ok (.iload_n 0, 1) := dk_26 (dk_at dksJ9_bitCount_0 10 rfl rfl)
theorem dJ9_bitCount_11 : decode cJ9_bitCount 11 = .ok (.ldc_w 266, 3) := dk_19 1 10 (dk_at dksJ9_bitCount_0 11 rfl rfl)
theorem dJ9_bitCount_14 : decode cJ9_bitCount 14 = .ok (.iand, 1) := dk_126 (dk_at dksJ9_bitCount_0 14 rfl rfl)
theorem dJ9_bitCount_15 : decode cJ9_bitCount 15 = .ok (.iload_n 0, 1) := dk_26 (dk_at dksJ9_bitCount_0 15 rfl rfl)
theorem dJ9_bitCount_16 : decode cJ9_bitCount 16 = .ok (.iconst 2, 1) := dk_5 (dk_at dksJ9_bitCount_0 16 rfl rfl)
theorem dJ9_bitCount_17 : decode cJ9_bitCount 17 = .ok (.iushr, 1) := dk_124 (dk_at dksJ9_bitCount_0 17 rfl rfl)
theorem dJ9_bitCount_18 : decode cJ9_bitCount 18 = .ok (.ldc_w 266, 3) := dk_19 1 10 (dk_at dksJ9_bitCount_0 18 rfl rfl)
theorem dJ9_bitCount_21 : decode cJ9_bitCount 21 = .ok (.iand, 1) := dk_126 (dk_at dksJ9_bitCount_0 21 rfl rfl)
theorem dJ9_bitCount_22 : decode cJ9_bitCount 22 = .ok (.iadd, 1) := dk_96 (dk_at dksJ9_bitCount_0 22 rfl rfl)
theorem dJ9_bitCount_23 : decode cJ9_bitCount 23 = .ok (.istore_n 0, 1) := dk_59 (dk_at dksJ9_bitCount_0 23 rfl rfl)
theorem dJ9_bitCount_24 : decode cJ9_bitCount 24 = .ok (.iload_n 0, 1) := dk_26 (dk_at dksJ9_bitCount_1 0 rfl rfl)
theorem dJ9_bitCount_25 : decode cJ9_bitCount 25 = .ok (.iload_n 0, 1) := dk_26 (dk_at dksJ9_bitCount_1 1 rfl rfl)
theorem dJ9_bitCount_26 : decode cJ9_bitCount 26 = .ok (.iconst 4, 1) := dk_7 (dk_at dksJ9_bitCount_1 2 rfl rfl)
theorem dJ9_bitCount_27 : decode cJ9_bitCount 27 = .ok (.iushr, 1) := dk_124 (dk_at dksJ9_bitCount_1 3 rfl rfl)
theorem dJ9_bitCount_28 : decode cJ9_bitCount 28 = .ok (.iadd, 1) := dk_96 (dk_at dksJ9_bitCount_1 4 rfl rfl)
theorem dJ9_bitCount_29 : decode cJ9_bitCount 29 = .ok (.ldc_w 267, 3) := dk_19 1 11 (dk_at dksJ9_bitCount_1 5 rfl rfl)
theorem dJ9_bitCount_32 : decode cJ9_bitCount 32 = .ok (.iand, 1) := dk_126 (dk_at dksJ9_bitCount_1 8 rfl rfl)
theorem dJ9_bitCount_33 : decode cJ9_bitCount 33 = .ok (.istore_n 0, 1) := dk_59 (dk_at dksJ9_bitCount_1 9 rfl rfl)
theorem dJ9_bitCount_34 : decode cJ9_bitCount 34 = .ok (.iload_n 0, 1) := dk_26 (dk_at dksJ9_bitCount_1 10 rfl rfl)
theorem dJ9_bitCount_35 : decode cJ9_bitCount 35 = .ok (.iload_n 0, 1) := dk_26 (dk_at dksJ9_bitCount_1 11 rfl rfl)
theorem dJ9_bitCount_36 : decode cJ9_bitCount 36 = .ok (.bipush 8, 2) := dk_16 8 (dk_at dksJ9_bitCount_1 12 rfl rfl)
theorem dJ9_bitCount_38 : decode cJ9_bitCount 38 = .ok (.iushr, 1) := dk_124 (dk_at dksJ9_bitCount_1 14 rfl rfl)
theorem dJ9_bitCount_39 : decode cJ9_bitCount 39 = .ok (.iadd, 1) := dk_96 (dk_at dksJ9_bitCount_1 15 rfl rfl)
theorem dJ9_bitCount_40 : decode cJ9_bitCount 40 = .ok (.istore_n 0, 1) := dk_59 (dk_at dksJ9_bitCount_1 16 rfl rfl)
theorem dJ9_bitCount_41 : decode cJ9_bitCount 41 = .ok (.iload_n 0, 1) := dk_26 (dk_at dksJ9_bitCount_1 17 rfl rfl)
theorem dJ9_bitCount_42 : decode cJ9_bitCount 42 = .ok (.iload_n 0, 1) := dk_26 (dk_at dksJ9_bitCount_1 18 rfl rfl)
theorem dJ9_bitCount_43 : decode cJ9_bitCount 43 = .ok (.bipush 16, 2) := dk_16 16 (dk_at dksJ9_bitCount_1 19 rfl rfl)
theorem dJ9_bitCount_45 : decode cJ9_bitCount 45 = .ok (.iushr, 1) := dk_124 (dk_at dksJ9_bitCount_1 21 rfl rfl)
theorem dJ9_bitCount_46 : decode cJ9_bitCount 46 = .ok (.iadd, 1) := dk_96 (dk_at dksJ9_bitCount_1 22 rfl rfl)
theorem dJ9_bitCount_47 : decode cJ9_bitCount 47 = .ok (.istore_n 0, 1) := dk_59 (dk_at dksJ9_bitCount_1 23 rfl rfl)
theorem dJ9_bitCount_48 : decode cJ9_bitCount 48 = .ok (.iload_n 0, 1) := dk_26 (dk_at dksJ9_bitCount_2 0 rfl rfl)
theorem dJ9_bitCount_49 : decode cJ9_bitCount 49 = .ok (.bipush 63, 2) := dk_16 63 (dk_at dksJ9_bitCount_2 1 rfl rfl)
theorem dJ9_bitCount_51 : decode cJ9_bitCount 51 = .ok (.iand, 1) := dk_126 (dk_at dksJ9_bitCount_2 3 rfl rfl)
theorem dJ9_bitCount_52 : decode cJ9_bitCount 52 = .ok (.ireturn, 1) := dk_172 (dk_at dksJ9_bitCount_2 4 rfl rfl)
theorem q103 : (Jvm.Cond.initialized "java/lang/Integer") ∈ lw_all := lw_g (lw_at lw_m1 19 rfl) rfl
theorem q530 : (Jvm.Cond.static ({ cls := "java/lang/Integer", name := "bitCount", desc := "(I)I" } : Jvm.MethodName)) ∈ lw_all := lw_g (lw_at lw_m2 206 rfl) rfl
theorem q531 : (Jvm.Cond.code ({ cls := "java/lang/Integer", name := "bitCount", desc := "(I)I" } : Jvm.MethodName) prog_19_method_49_code (1 : Nat) (Option.some Jvm.ClassFile.FieldType.int)) ∈ lw_all := lw_g (lw_at lw_m2 207 rfl) rfl
theorem q532 : (Jvm.Cond.constant "java/lang/Integer" (265 : Nat) (1431655765 : Int32)) ∈ lw_all := lw_g (lw_at lw_m2 208 rfl) rfl
theorem q533 : (Jvm.Cond.constant "java/lang/Integer" (266 : Nat) (858993459 : Int32)) ∈ lw_all := lw_g (lw_at lw_m2 209 rfl) rfl
theorem q534 : (Jvm.Cond.constant "java/lang/Integer" (267 : Nat) (252645135 : Int32)) ∈ lw_all := lw_g (lw_at lw_m2 210 rfl) rfl
