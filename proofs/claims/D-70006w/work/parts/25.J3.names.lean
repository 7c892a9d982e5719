/-! java/lang/String -/
set_option maxRecDepth 100000
def RJ3 : String := "java/lang/String"
def TJ3 : u_T := fun k => match k with
  | 0 => ("java/lang/String", "value", "[B", true)
  | _ => ("java/lang/String", "coder", "B", true)
def tyJ3 : Nat → FieldType := fun k => match k with
  | 0 => .array .byte
  | _ => .byte
abbrev wsJ30 : List Cond := u_ws RJ3 TJ3 2
theorem nmJ3 : ∀ a, a < 2 → ∀ b, b < 2 → a ≠ b → (TJ3 a).2.1 ≠ (TJ3 b).2.1 := by decide +kernel
theorem tyJ3_ok : ∀ k, k < 2 → parseFieldDescriptor (TJ3 k).2.2.1 = some (tyJ3 k) := by decide +kernel
abbrev cJ3_length : ByteArray := prog_24_method_54_code
def yJ3_length : MethodName := ⟨RJ3, "length", "()I"⟩
def dkwJ3_length_0 : List UInt8 := [42, 180, 0, 9, 190, 42, 182, 1, 79, 122, 172]
abbrev dktJ3_length_0 : List UInt8 := dkwJ3_length_0 ++ []
theorem dksJ3_length_0 : cJ3_length.data.toList.drop 0 = dktJ3_length_0 := by decide +kernel
theorem dJ3_length_0 : decode cJ3_length 0 = .ok (.aload_n 0, 1) := dk_42 (dk_at dksJ3_length_0 0 rfl rfl)
theorem dJ3_length_1 : decode cJ3_length 1 = .ok (.getfield 9, 3) := dk_180 0 9 (dk_at dksJ3_length_0 1 rfl rfl)
theorem dJ3_length_4 : decode cJ3_length 4 = .ok (.arraylength, 1) := dk_190 (dk_at dksJ3_length_0 4 rfl rfl)
theorem dJ3_length_5 : decode cJ3_length 5 = .ok (.aload_n 0, 1) := dk_42 (dk_at dksJ3_length_0 5 rfl rfl)
theorem dJ3_length_6 : decode cJ3_length 6 = .ok (.invokevirtual 335, 3) := dk_182 1 79 (dk_at dksJ3_length_0 6 rfl rfl)
theorem dJ3_length_9 : decode cJ3_length 9 = .ok (.ishr, 1) := dk_122 (dk_at dksJ3_length_0 9 rfl rfl)
theorem dJ3_length_10 : decode cJ3_length 10 = .ok (.ireturn, 1) := dk_172 (dk_at dksJ3_length_0 10 rfl rfl)
abbrev cJ3_coder : ByteArray := prog_24_method_152_code
def yJ3_coder : MethodName := ⟨RJ3, "coder", "()B"⟩
def dkwJ3_coder_0 : List UInt8 := [178, 0, 38, 153, 0, 10, 42, 180, 0, 15, 167, 0, 4, 4, 172]
abbrev dktJ3_coder_0 : List UInt8 := dkwJ3_coder_0 ++ []
theorem dksJ3_coder_0 : cJ3_coder.data.toList.drop 0 = dktJ3_coder_0 := by decide +kernel
theorem dJ3_coder_0 : decode cJ3_coder 0 = .ok (.getstatic 38, 3) := dk_178 0 38 (dk_at dksJ3_coder_0 0 rfl rfl)
theorem dJ3_coder_3 : decode cJ3_coder 3 = .ok (.ifCond .eq 10, 3) := dk_153 0 10 (dk_at dksJ3_coder_0 3 rfl rfl)
theorem dJ3_coder_6 : decode cJ3_coder 6 = .ok (.aload_n 0, 1) := dk_42 (dk_at dksJ3_coder_0 6 rfl rfl)
theorem dJ3_coder_7 : decode cJ3_coder 7 = .ok (.getfield 15, 3) := dk_180 0 15 (dk_at dksJ3_coder_0 7 rfl rfl)
theorem dJ3_coder_10 : decode cJ3_coder 10 = .ok (.goto 4, 3) := dk_167 0 4 (dk_at dksJ3_coder_0 10 rfl rfl)
theorem dJ3_coder_13 : decode cJ3_coder 13 = .ok (.iconst 1, 1) := dk_4 (dk_at dksJ3_coder_0 13 rfl rfl)
theorem dJ3_coder_14 : decode cJ3_coder 14 = .ok (.ireturn, 1) := dk_172 (dk_at dksJ3_coder_0 14 rfl rfl)
abbrev cJ3_charAt : ByteArray := prog_24_method_56_code
def yJ3_charAt : MethodName := ⟨RJ3, "charAt", "(I)C"⟩
def dkwJ3_charAt_1 : List UInt8 := [172]
abbrev dktJ3_charAt_1 : List UInt8 := dkwJ3_charAt_1 ++ []
def dkwJ3_charAt_0 : List UInt8 := [42, 182, 1, 236, 153, 0, 12, 42, 180, 0, 9, 27, 184, 1, 239, 172, 42, 180, 0, 9, 27, 184, 1, 242]
abbrev dktJ3_charAt_0 : List UInt8 := dkwJ3_charAt_0 ++ dktJ3_charAt_1
theorem dksJ3_charAt_0 : cJ3_charAt.data.toList.drop 0 = dktJ3_charAt_0 := by decide +kernel
theorem dksJ3_charAt_1 : cJ3_charAt.data.toList.drop 24 = dktJ3_charAt_1 := dk_seg dksJ3_charAt_0 24 rfl rfl
theorem dJ3_charAt_0 : decode cJ3_charAt 0 = .ok (.aload_n 0, 1) := dk_42 (dk_at dksJ3_charAt_0 0 rfl rfl)
theorem dJ3_charAt_1 : decode cJ3_charAt 1 = .ok (.invokevirtual 492, 3) := dk_182 1 236 (dk_at dksJ3_charAt_0 1 rfl rfl)
theorem dJ3_charAt_4 : decode cJ3_charAt 4 = .ok (.ifCond .eq 12, 3) := dk_153 0 12 (dk_at dksJ3_charAt_0 4 rfl rfl)
theorem dJ3_charAt_7 : decode cJ3_charAt 7 = .ok (.aload_n 0, 1) := dk_42 (dk_at dksJ3_charAt_0 7 rfl rfl)
theorem dJ3_charAt_8 : decode cJ3_charAt 8 = .ok (.getfield 9, 3) := dk_180 0 9 (dk_at dksJ3_charAt_0 8 rfl rfl)
theorem dJ3_charAt_11 : decode cJ3_charAt 11 = .ok (.iload_n 1, 1) := dk_27 (dk_at dksJ3_charAt_0 11 rfl rfl)
theorem dJ3_charAt_12 : decode cJ3_charAt 12 = .ok (.invokestatic 495, 3) := dk_184 1 239 (dk_at dksJ3_charAt_0 12 rfl rfl)
theorem dJ3_charAt_15 : decode cJ3_charAt 15 = .ok (.ireturn, 1) := dk_172 (dk_at dksJ3_charAt_0 15 rfl rfl)
theorem dJ3_charAt_16 : decode cJ3_charAt 16 = .ok (.aload_n 0, 1) := dk_42 (dk_at dksJ3_charAt_0 16 rfl rfl)
theorem dJ3_charAt_17 : decode cJ3_charAt 17 = .ok (.getfield 9, 3) := dk_180 0 9 (dk_at dksJ3_charAt_0 17 rfl rfl)
theorem dJ3_charAt_20 : decode cJ3_charAt 20 = .ok (.iload_n 1, 1) := dk_27 (dk_at dksJ3_charAt_0 20 rfl rfl)
theorem dJ3_charAt_21 : decode cJ3_charAt 21 = .ok (.invokestatic 498, 3) := dk_184 1 242 (dk_at dksJ3_charAt_0 21 rfl rfl)
theorem dJ3_charAt_24 : decode cJ3_charAt 24 = .ok (.ireturn, 1) := dk_172 (dk_at dksJ3_charAt_1 0 rfl rfl)
abbrev cJ3_isLatin1 : ByteArray := prog_24_method_154_code
def yJ3_isLatin1 : MethodName := ⟨RJ3, "isLatin1", "()Z"⟩
def dkwJ3_isLatin1_0 : List UInt8 := [178, 0, 38, 153, 0, 14, 42, 180, 0, 15, 154, 0, 7, 4, 167, 0, 4, 3, 172]
abbrev dktJ3_isLatin1_0 : List UInt8 := dkwJ3_isLatin1_0 ++ []
theorem dksJ3_isLatin1_0 : cJ3_isLatin1.data.toList.drop 0 = dktJ3_isLatin1_0 := by decide +kernel
theorem dJ3_isLatin1_0 : decode cJ3_isLatin1 0 = .ok (.getstatic 38, 3) := dk_178 0 38 (dk_at dksJ3_isLatin1_0 0 rfl rfl)
theorem dJ3_isLatin1_3 : decode cJ3_isLatin1 3 = .ok (.ifCond .eq 14, 3) := dk_153 0 14 (dk_at dksJ3_isLatin1_0 3 rfl rfl)
theorem dJ3_isLatin1_6 : decode cJ3_isLatin1 6 = .ok (.aload_n 0, 1) := dk_42 (dk_at dksJ3_isLatin1_0 6 rfl rfl)
theorem dJ3_isLatin1_7 : decode cJ3_isLatin1 7 = .ok (.getfield 15, 3) := dk_180 0 15 (dk_at dksJ3_isLatin1_0 7 rfl rfl)
theorem dJ3_isLatin1_10 : decode cJ3_isLatin1 10 = .ok (.ifCond .ne 7, 3) := dk_154 0 7 (dk_at dksJ3_isLatin1_0 10 rfl rfl)
theorem dJ3_isLatin1_13 : decode cJ3_isLatin1 13 = .ok (.iconst 1, 1) := dk_4 (dk_at dksJ3_isLatin1_0 13 rfl rfl)
theorem dJ3_isLatin1_14 : decode cJ3_isLatin1 14 = .ok (.goto 4, 3) := dk_167 0 4 (dk_at dksJ3_isLatin1_0 14 rfl rfl)
theorem dJ3_isLatin1_17 : decode cJ3_isLatin1 17 = .ok (.iconst 0, 1) := dk_3 (dk_at dksJ3_isLatin1_0 17 rfl rfl)
theorem dJ3_isLatin1_18 : decode cJ3_isLatin1 18 = .ok (.ireturn, 1) := dk_172 (dk_at dksJ3_isLatin1_0 18 rfl rfl)
abbrev cJ3_checkIndex : ByteArray := prog_24_method_155_code
def yJ3_checkIndex : MethodName := ⟨RJ3, "checkIndex", "(II)V"⟩
def dkwJ3_checkIndex_0 : List UInt8 := [26, 27, 178, 4, 29, 184, 4, 35, 87, 177]
abbrev dktJ3_checkIndex_0 : List UInt8 := dkwJ3_checkIndex_0 ++ []
theorem dksJ3_checkIndex_0 : cJ3_checkIndex.data.toList.drop 0 = dktJ3_checkIndex_0 := by decide +kernel
theorem dJ3_checkIndex_0 : decode cJ3_checkIndex 0 = .ok (.iload_n 0, 1) := dk_26 (dk_at dksJ3_checkIndex_0 0 rfl rfl)
theorem dJ3_checkIndex_1 : decode cJ3_checkIndex 1 = .ok (.iload_n 1, 1) := dk_27 (dk_at dksJ3_checkIndex_0 1 rfl rfl)
theorem dJ3_checkIndex_2 : decode cJ3_checkIndex 2 = .ok (.getstatic 1053, 3) := dk_178 4 29 (dk_at dksJ3_checkIndex_0 2 rfl rfl)
theorem dJ3_checkIndex_5 : decode cJ3_checkIndex 5 = .ok (.invokestatic 1059, 3) := dk_184 4 35 (dk_at dksJ3_checkIndex_0 5 rfl rfl)
theorem dJ3_checkIndex_8 : decode cJ3_checkIndex 8 = .ok (.pop, 1) := dk_87 (dk_at dksJ3_checkIndex_0 8 rfl rfl)
theorem dJ3_checkIndex_9 : decode cJ3_checkIndex 9 = .ok (.return_, 1) := dk_177 (dk_at dksJ3_checkIndex_0 9 rfl rfl)
abbrev cJ3_indexOf : ByteArray := prog_24_method_79_code
def yJ3_indexOf : MethodName := ⟨RJ3, "indexOf", "(I)I"⟩
def dkwJ3_indexOf_0 : List UInt8 := [42, 27, 3, 182, 2, 121, 172]
abbrev dktJ3_indexOf_0 : List UInt8 := dkwJ3_indexOf_0 ++ []
theorem dksJ3_indexOf_0 : cJ3_indexOf.data.toList.drop 0 = dktJ3_indexOf_0 := by decide +kernel
theorem dJ3_indexOf_0 : decode cJ3_indexOf 0 = .ok (.aload_n 0, 1) := dk_42 (dk_at dksJ3_indexOf_0 0 rfl rfl)
theorem dJ3_indexOf_1 : decode cJ3_indexOf 1 = .ok (.iload_n 1, 1) := dk_27 (dk_at dksJ3_indexOf_0 1 rfl rfl)
theorem dJ3_indexOf_2 : decode cJ3_indexOf 2 = .ok (.iconst 0, 1) := dk_3 (dk_at dksJ3_indexOf_0 2 rfl rfl)
theorem dJ3_indexOf_3 : decode cJ3_indexOf 3 = .ok (.invokevirtual 633, 3) := dk_182 2 121 (dk_at dksJ3_indexOf_0 3 rfl rfl)
theorem dJ3_indexOf_6 : decode cJ3_indexOf 6 = .ok (.ireturn, 1) := dk_172 (dk_at dksJ3_indexOf_0 6 rfl rfl)
abbrev cJ3_indexOf_2 : ByteArray := prog_24_method_80_code
def yJ3_indexOf_2 : MethodName := ⟨RJ3, "indexOf", "(II)I"⟩
def dkwJ3_indexOf_2_1 : List UInt8 := [180, 0, 9, 27, 28, 42, 182, 1, 249, 184, 2, 128, 172]
abbrev dktJ3_indexOf_2_1 : List UInt8 := dkwJ3_indexOf_2_1 ++ []
def dkwJ3_indexOf_2_0 : List UInt8 := [42, 182, 1, 236, 153, 0, 19, 42, 180, 0, 9, 27, 28, 42, 182, 1, 249, 184, 2, 125, 167, 0, 16, 42]
abbrev dktJ3_indexOf_2_0 : List UInt8 := dkwJ3_indexOf_2_0 ++ dktJ3_indexOf_2_1
theorem dksJ3_indexOf_2_0 : cJ3_indexOf_2.data.toList.drop 0 = dktJ3_indexOf_2_0 := by decide +kernel
theorem dksJ3_indexOf_2_1 : cJ3_indexOf_2.data.toList.drop 24 = dktJ3_indexOf_2_1 := dk_seg dksJ3_indexOf_2_0 24 rfl rfl
theorem dJ3_indexOf_2_0 : decode cJ3_indexOf_2 0 = .ok (.aload_n 0, 1) := dk_42 (dk_at dksJ3_indexOf_2_0 0 rfl rfl)
theorem dJ3_indexOf_2_1 : decode cJ3_indexOf_2 1 = .ok (.invokevirtual 492, 3) := dk_182 1 236 (dk_at dksJ3_indexOf_2_0 1 rfl rfl)
theorem dJ3_indexOf_2_4 : decode cJ3_indexOf_2 4 = .ok (.ifCond .eq 19, 3) := dk_153 0 19 (dk_at dksJ3_indexOf_2_0 4 rfl rfl)
theorem dJ3_indexOf_2_7 : decode cJ3_indexOf_2 7 = .ok (.aload_n 0, 1) := dk_42 (dk_at dksJ3_indexOf_2_0 7 rfl rfl)
theorem dJ3_indexOf_2_8 : decode cJ3_indexOf_2 8 = .ok (.getfield 9, 3) := dk_180 0 9 (dk_at dksJ3_indexOf_2_0 8 rfl rfl)
theorem dJ3_indexOf_2_11 : decode cJ3_indexOf_2 11 = .ok (.iload_n 1, 1) := dk_27 (dk_at dksJ3_indexOf_2_0 11 rfl rfl)
theorem dJ3_indexOf_2_12 : decode cJ3_indexOf_2 12 = .ok (.iload_n 2, 1) := dk_28 (dk_at dksJ3_indexOf_2_0 12 rfl rfl)
theorem dJ3_indexOf_2_13 : decode cJ3_indexOf_2 13 = .ok (.aload_n 0, 1) := dk_42 (dk_at dksJ3_indexOf_2_0 13 rfl rfl)
theorem dJ3_indexOf_2_14 : decode cJ3_indexOf_2 14 = .ok (.invokevirtual 505, 3) := dk_182 1 249 (dk_at dksJ3_indexOf_2_0 14 rfl rfl)
theorem dJ3_indexOf_2_17 : decode cJ3_indexOf_2 17 = .ok (.invokestatic 637, 3) := dk_184 2 125 (dk_at dksJ3_indexOf_2_0 17 rfl rfl)
theorem dJ3_indexOf_2_20 : decode cJ3_indexOf_2 20 = .ok (.goto 16, 3) := dk_167 0 16 (dk_at dksJ3_indexOf_2_0 20 rfl rfl)
theorem dJ3_indexOf_2_23 : decode cJ3_indexOf_2 23 = .ok (.aload_n 0, 1) := dk_42 (dk_at dksJ3_indexOf_2_0 23 rfl rfl)
theorem dJ3_indexOf_2_24 : decode cJ3_indexOf_2 24 = .ok (.getfield 9, 3) := dk_180 0 9 (dk_at dksJ3_indexOf_2_1 0 rfl rfl)
theorem dJ3_indexOf_2_27 : decode cJ3_indexOf_2 27 = .ok (.iload_n 1, 1) := dk_27 (dk_at dksJ3_indexOf_2_1 3 rfl rfl)
theorem dJ3_indexOf_2_28 : decode cJ3_indexOf_2 28 = .ok (.iload_n 2, 1) := dk_28 (dk_at dksJ3_indexOf_2_1 4 rfl rfl)
theorem dJ3_indexOf_2_29 : decode cJ3_indexOf_2 29 = .ok (.aload_n 0, 1) := dk_42 (dk_at dksJ3_indexOf_2_1 5 rfl rfl)
theorem dJ3_indexOf_2_30 : decode cJ3_indexOf_2 30 = .ok (.invokevirtual 505, 3) := dk_182 1 249 (dk_at dksJ3_indexOf_2_1 6 rfl rfl)
theorem dJ3_indexOf_2_33 : decode cJ3_indexOf_2 33 = .ok (.invokestatic 640, 3) := dk_184 2 128 (dk_at dksJ3_indexOf_2_1 9 rfl rfl)
theorem dJ3_indexOf_2_36 : decode cJ3_indexOf_2 36 = .ok (.ireturn, 1) := dk_172 (dk_at dksJ3_indexOf_2_1 12 rfl rfl)
abbrev cJ3_checkBoundsBeginEnd : ByteArray := prog_24_method_158_code
def yJ3_checkBoundsBeginEnd : MethodName := ⟨RJ3, "checkBoundsBeginEnd", "(III)V"⟩
def dkwJ3_checkBoundsBeginEnd_0 : List UInt8 := [26, 27, 28, 178, 4, 29, 184, 4, 38, 87, 177]
abbrev dktJ3_checkBoundsBeginEnd_0 : List UInt8 := dkwJ3_checkBoundsBeginEnd_0 ++ []
theorem dksJ3_checkBoundsBeginEnd_0 : cJ3_checkBoundsBeginEnd.data.toList.drop 0 = dktJ3_checkBoundsBeginEnd_0 := by decide +kernel
theorem dJ3_checkBoundsBeginEnd_0 : decode cJ3_checkBoundsBeginEnd 0 = .ok (.iload_n 0, 1) := dk_26 (dk_at dksJ3_checkBoundsBeginEnd_0 0 rfl rfl)
theorem dJ3_checkBoundsBeginEnd_1 : decode cJ3_checkBoundsBeginEnd 1 = .ok (.iload_n 1, 1) := dk_27 (dk_at dksJ3_checkBoundsBeginEnd_0 1 rfl rfl)
theorem dJ3_checkBoundsBeginEnd_2 : decode cJ3_checkBoundsBeginEnd 2 = .ok (.iload_n 2, 1) := dk_28 (dk_at dksJ3_checkBoundsBeginEnd_0 2 rfl rfl)
theorem dJ3_checkBoundsBeginEnd_3 : decode cJ3_checkBoundsBeginEnd 3 = .ok (.getstatic 1053, 3) := dk_178 4 29 (dk_at dksJ3_checkBoundsBeginEnd_0 3 rfl rfl)
theorem dJ3_checkBoundsBeginEnd_6 : decode cJ3_checkBoundsBeginEnd 6 = .ok (.invokestatic 1062, 3) := dk_184 4 38 (dk_at dksJ3_checkBoundsBeginEnd_0 6 rfl rfl)
theorem dJ3_checkBoundsBeginEnd_9 : decode cJ3_checkBoundsBeginEnd 9 = .ok (.pop, 1) := dk_87 (dk_at dksJ3_checkBoundsBeginEnd_0 9 rfl rfl)
theorem dJ3_checkBoundsBeginEnd_10 : decode cJ3_checkBoundsBeginEnd 10 = .ok (.return_, 1) := dk_177 (dk_at dksJ3_checkBoundsBeginEnd_0 10 rfl rfl)
theorem q96 : (Jvm.Cond.initialized "java/lang/String") ∈ lw_all := lw_g (lw_at lw_m1 12 rfl) rfl
theorem q362 : (Jvm.Cond.instanceMethod ({ cls := "java/lang/String", name := "length", desc := "()I" } : Jvm.MethodName)) ∈ lw_all := lw_g (lw_at lw_m2 38 rfl) rfl
theorem q363 : (Jvm.Cond.selects "java/lang/String" ({ cls := "java/lang/String", name := "length", desc := "()I" } : Jvm.MethodName) ({ cls := "java/lang/String", name := "length", desc := "()I" } : Jvm.MethodName)) ∈ lw_all := lw_g (lw_at lw_m2 39 rfl) rfl
theorem q364 : (Jvm.Cond.code ({ cls := "java/lang/String", name := "length", desc := "()I" } : Jvm.MethodName) prog_24_method_54_code (1 : Nat) (Option.some Jvm.ClassFile.FieldType.int)) ∈ lw_all := lw_g (lw_at lw_m2 40 rfl) rfl
theorem q365 : (Jvm.Cond.methodLink "java/lang/String" (335 : Nat) ({ cls := "java/lang/String", name := "coder", desc := "()B" } : Jvm.MethodName)) ∈ lw_all := lw_g (lw_at lw_m2 41 rfl) rfl
theorem q366 : (Jvm.Cond.instanceMethod ({ cls := "java/lang/String", name := "coder", desc := "()B" } : Jvm.MethodName)) ∈ lw_all := lw_g (lw_at lw_m2 42 rfl) rfl
theorem q367 : (Jvm.Cond.selects "java/lang/String" ({ cls := "java/lang/String", name := "coder", desc := "()B" } : Jvm.MethodName) ({ cls := "java/lang/String", name := "coder", desc := "()B" } : Jvm.MethodName)) ∈ lw_all := lw_g (lw_at lw_m2 43 rfl) rfl
theorem q368 : (Jvm.Cond.code ({ cls := "java/lang/String", name := "coder", desc := "()B" } : Jvm.MethodName) prog_24_method_152_code (1 : Nat) (Option.some Jvm.ClassFile.FieldType.byte)) ∈ lw_all := lw_g (lw_at lw_m2 44 rfl) rfl
theorem q369 : (Jvm.Cond.fieldLink "java/lang/String" (38 : Nat) "java/lang/String" "COMPACT_STRINGS" "Z") ∈ lw_all := lw_g (lw_at lw_m2 45 rfl) rfl
theorem q370 : (Jvm.Cond.laysStatic "java/lang/String" "COMPACT_STRINGS" "Z") ∈ lw_tbl := lw_at lw_m2 46 rfl
theorem q372 : (Jvm.Cond.instanceMethod ({ cls := "java/lang/String", name := "charAt", desc := "(I)C" } : Jvm.MethodName)) ∈ lw_all := lw_g (lw_at lw_m2 48 rfl) rfl
theorem q373 : (Jvm.Cond.selects "java/lang/String" ({ cls := "java/lang/String", name := "charAt", desc := "(I)C" } : Jvm.MethodName) ({ cls := "java/lang/String", name := "charAt", desc := "(I)C" } : Jvm.MethodName)) ∈ lw_all := lw_g (lw_at lw_m2 49 rfl) rfl
theorem q374 : (Jvm.Cond.code ({ cls := "java/lang/String", name := "charAt", desc := "(I)C" } : Jvm.MethodName) prog_24_method_56_code (2 : Nat) (Option.some Jvm.ClassFile.FieldType.char)) ∈ lw_all := lw_g (lw_at lw_m2 50 rfl) rfl
theorem q375 : (Jvm.Cond.methodLink "java/lang/String" (492 : Nat) ({ cls := "java/lang/String", name := "isLatin1", desc := "()Z" } : Jvm.MethodName)) ∈ lw_all := lw_g (lw_at lw_m2 51 rfl) rfl
theorem q376 : (Jvm.Cond.instanceMethod ({ cls := "java/lang/String", name := "isLatin1", desc := "()Z" } : Jvm.MethodName)) ∈ lw_all := lw_g (lw_at lw_m2 52 rfl) rfl
theorem q377 : (Jvm.Cond.selects "java/lang/String" ({ cls := "java/lang/String", name := "isLatin1", desc := "()Z" } : Jvm.MethodName) ({ cls := "java/lang/String", name := "isLatin1", desc := "()Z" } : Jvm.MethodName)) ∈ lw_all := lw_g (lw_at lw_m2 53 rfl) rfl
theorem q378 : (Jvm.Cond.code ({ cls := "java/lang/String", name := "isLatin1", desc := "()Z" } : Jvm.MethodName) prog_24_method_154_code (1 : Nat) (Option.some Jvm.ClassFile.FieldType.boolean)) ∈ lw_all := lw_g (lw_at lw_m2 54 rfl) rfl
theorem q379 : (Jvm.Cond.methodLink "java/lang/String" (495 : Nat) ({ cls := "java/lang/StringLatin1", name := "charAt", desc := "([BI)C" } : Jvm.MethodName)) ∈ lw_all := lw_g (lw_at lw_m2 55 rfl) rfl
theorem q383 : (Jvm.Cond.static ({ cls := "java/lang/String", name := "checkIndex", desc := "(II)V" } : Jvm.MethodName)) ∈ lw_all := lw_g (lw_at lw_m2 59 rfl) rfl
theorem q384 : (Jvm.Cond.code ({ cls := "java/lang/String", name := "checkIndex", desc := "(II)V" } : Jvm.MethodName) prog_24_method_155_code (2 : Nat) (Option.none : Option Jvm.ClassFile.FieldType)) ∈ lw_all := lw_g (lw_at lw_m2 60 rfl) rfl
theorem q385 : (Jvm.Cond.fieldLink "java/lang/String" (1053 : Nat) "jdk/internal/util/Preconditions" "SIOOBE_FORMATTER" "Ljava/util/function/BiFunction;") ∈ lw_all := lw_g (lw_at lw_m2 61 rfl) rfl
theorem q387 : (Jvm.Cond.methodLink "java/lang/String" (1059 : Nat) ({ cls := "jdk/internal/util/Preconditions", name := "checkIndex", desc := "(IILjava/util/function/BiFunction;)I" } : Jvm.MethodName)) ∈ lw_all := lw_g (lw_at lw_m2 63 rfl) rfl
theorem q390 : (Jvm.Cond.methodLink "java/lang/String" (498 : Nat) ({ cls := "java/lang/StringUTF16", name := "charAt", desc := "([BI)C" } : Jvm.MethodName)) ∈ lw_all := lw_g (lw_at lw_m2 66 rfl) rfl
theorem q442 : (Jvm.Cond.instanceMethod ({ cls := "java/lang/String", name := "indexOf", desc := "(I)I" } : Jvm.MethodName)) ∈ lw_all := lw_g (lw_at lw_m2 118 rfl) rfl
theorem q443 : (Jvm.Cond.selects "java/lang/String" ({ cls := "java/lang/String", name := "indexOf", desc := "(I)I" } : Jvm.MethodName) ({ cls := "java/lang/String", name := "indexOf", desc := "(I)I" } : Jvm.MethodName)) ∈ lw_all := lw_g (lw_at lw_m2 119 rfl) rfl
theorem q444 : (Jvm.Cond.code ({ cls := "java/lang/String", name := "indexOf", desc := "(I)I" } : Jvm.MethodName) prog_24_method_79_code (2 : Nat) (Option.some Jvm.ClassFile.FieldType.int)) ∈ lw_all := lw_g (lw_at lw_m2 120 rfl) rfl
theorem q445 : (Jvm.Cond.methodLink "java/lang/String" (633 : Nat) ({ cls := "java/lang/String", name := "indexOf", desc := "(II)I" } : Jvm.MethodName)) ∈ lw_all := lw_g (lw_at lw_m2 121 rfl) rfl
theorem q446 : (Jvm.Cond.instanceMethod ({ cls := "java/lang/String", name := "indexOf", desc := "(II)I" } : Jvm.MethodName)) ∈ lw_all := lw_g (lw_at lw_m2 122 rfl) rfl
theorem q447 : (Jvm.Cond.selects "java/lang/String" ({ cls := "java/lang/String", name := "indexOf", desc := "(II)I" } : Jvm.MethodName) ({ cls := "java/lang/String", name := "indexOf", desc := "(II)I" } : Jvm.MethodName)) ∈ lw_all := lw_g (lw_at lw_m2 123 rfl) rfl
theorem q448 : (Jvm.Cond.code ({ cls := "java/lang/String", name := "indexOf", desc := "(II)I" } : Jvm.MethodName) prog_24_method_80_code (3 : Nat) (Option.some Jvm.ClassFile.FieldType.int)) ∈ lw_all := lw_g (lw_at lw_m2 124 rfl) rfl
theorem q449 : (Jvm.Cond.methodLink "java/lang/String" (505 : Nat) ({ cls := "java/lang/String", name := "length", desc := "()I" } : Jvm.MethodName)) ∈ lw_all := lw_g (lw_at lw_m2 125 rfl) rfl
theorem q450 : (Jvm.Cond.methodLink "java/lang/String" (637 : Nat) ({ cls := "java/lang/StringLatin1", name := "indexOf", desc := "([BIII)I" } : Jvm.MethodName)) ∈ lw_all := lw_g (lw_at lw_m2 126 rfl) rfl
theorem q463 : (Jvm.Cond.methodLink "java/lang/String" (640 : Nat) ({ cls := "java/lang/StringUTF16", name := "indexOf", desc := "([BIII)I" } : Jvm.MethodName)) ∈ lw_all := lw_g (lw_at lw_m2 139 rfl) rfl
theorem q476 : (Jvm.Cond.static ({ cls := "java/lang/String", name := "checkBoundsBeginEnd", desc := "(III)V" } : Jvm.MethodName)) ∈ lw_all := lw_g (lw_at lw_m2 152 rfl) rfl
theorem q477 : (Jvm.Cond.code ({ cls := "java/lang/String", name := "checkBoundsBeginEnd", desc := "(III)V" } : Jvm.MethodName) prog_24_method_158_code (3 : Nat) (Option.none : Option Jvm.ClassFile.FieldType)) ∈ lw_all := lw_g (lw_at lw_m2 153 rfl) rfl
theorem q478 : (Jvm.Cond.methodLink "java/lang/String" (1062 : Nat) ({ cls := "jdk/internal/util/Preconditions", name := "checkFromToIndex", desc := "(IIILjava/util/function/BiFunction;)I" } : Jvm.MethodName)) ∈ lw_all := lw_g (lw_at lw_m2 154 rfl) rfl
theorem q1031 : (Jvm.Cond.instantiable "java/lang/String" (4 : Nat)) ∈ lw_all := lw_g (lw_at lw_m4 227 rfl) rfl
theorem q1032 : (Jvm.Cond.laysFinal "java/lang/String" "java/lang/String" "value" "[B") ∈ lw_all := lw_g (lw_at lw_m4 228 rfl) rfl
theorem q1033 : (Jvm.Cond.soleField "java/lang/String" "value") ∈ lw_all := lw_g (lw_at lw_m4 229 rfl) rfl
theorem q1034 : (Jvm.Cond.laysFinal "java/lang/String" "java/lang/String" "coder" "B") ∈ lw_all := lw_g (lw_at lw_m4 230 rfl) rfl
theorem q1035 : (Jvm.Cond.soleField "java/lang/String" "coder") ∈ lw_all := lw_g (lw_at lw_m4 231 rfl) rfl
theorem q1638 : (Jvm.Cond.fieldLink "java/lang/String" (9 : Nat) "java/lang/String" "value" "[B") ∈ lw_all := lw_g (lw_at lw_m7 114 rfl) rfl
theorem q1639 : (Jvm.Cond.fieldLink "java/lang/String" (15 : Nat) "java/lang/String" "coder" "B") ∈ lw_all := lw_g (lw_at lw_m7 115 rfl) rfl
theorem in_J3 : ∀ w ∈ wsJ30, w ∈ lw_all := lw_in wsJ30 [1032, 1034] (by decide +kernel) (by decide +kernel)
