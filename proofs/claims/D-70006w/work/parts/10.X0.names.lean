/-! EchoPens -/
set_option maxRecDepth 100000
def RX0 : String := "EchoPens"
def TX0 : u_T := fun k => match k with
  | 0 => ("EchoPens", "tape", "[B", true)
  | 1 => ("EchoPens", "taped", "I", false)
  | 2 => ("EchoPens", "fault", "I", false)
  | 3 => ("EchoPens", "now", "LEchoPens$Farm;", true)
  | 4 => ("EchoPens", "penMany", "I", false)
  | 5 => ("EchoPens", "orders", "[LEchoPens$Order;", false)
  | 6 => ("EchoPens", "orderMany", "I", false)
  | 7 => ("EchoPens", "work", "LEchoPens$Farm;", true)
  | 8 => ("EchoPens", "row", "[I", true)
  | 9 => ("EchoPens", "bestRow", "[I", true)
  | 10 => ("EchoPens", "mostEarned", "I", false)
  | 11 => ("EchoPens", "home", "LEchoPens$Farm;", true)
  | 12 => ("EchoPens", "bestPens", "[I", true)
  | 13 => ("EchoPens", "mostSale", "I", false)
  | 14 => ("EchoPens", "wayMany", "I", false)
  | 15 => ("EchoPens", "possible", "[I", true)
  | 16 => ("EchoPens", "parted", "[I", true)
  | 17 => ("EchoPens", "seen", "[[I", true)
  | 18 => ("EchoPens", "seenMany", "I", false)
  | 19 => ("EchoPens", "images", "[LEchoPens$Image;", true)
  | 20 => ("EchoPens", "aside", "LEchoPens$Farm;", true)
  | 21 => ("EchoPens", "sheets", "[LEchoPens$Sheet;", true)
  | 22 => ("EchoPens", "torn", "I", false)
  | 23 => ("EchoPens", "cameMany", "I", false)
  | _ => ("EchoPens", "refused", "I", false)
def tyX0 : Nat → FieldType := fun k => match k with
  | 0 => .array .byte
  | 1 => .int
  | 2 => .int
  | 3 => .object "EchoPens$Farm"
  | 4 => .int
  | 5 => .array (.object "EchoPens$Order")
  | 6 => .int
  | 7 => .object "EchoPens$Farm"
  | 8 => .array .int
  | 9 => .array .int
  | 10 => .int
  | 11 => .object "EchoPens$Farm"
  | 12 => .array .int
  | 13 => .int
  | 14 => .int
  | 15 => .array .int
  | 16 => .array .int
  | 17 => .array (.array .int)
  | 18 => .int
  | 19 => .array (.object "EchoPens$Image")
  | 20 => .object "EchoPens$Farm"
  | 21 => .array (.object "EchoPens$Sheet")
  | 22 => .int
  | 23 => .int
  | _ => .int
abbrev wsX00 : List Cond := u_ws RX0 TX0 25
set_option maxRecDepth 100000 in
theorem nmX0 : ∀ a, a < 25 → ∀ b, b < 25 → a ≠ b → (TX0 a).2.1 ≠ (TX0 b).2.1 := by decide +kernel
set_option maxRecDepth 100000 in
theorem tyX0_ok : ∀ k, k < 25 → parseFieldDescriptor (TX0 k).2.2.1 = some (tyX0 k) := by decide +kernel
abbrev cX0_feed : ByteArray := prog_1_method_3_code
def yX0_feed : MethodName := ⟨RX0, "feed", "(I)I"⟩
def dkwX0_feed_2 : List UInt8 := [42, 180, 0, 9, 172]
abbrev dktX0_feed_2 : List UInt8 := dkwX0_feed_2 ++ []
def dkwX0_feed_1 : List UInt8 := [16, 253, 172, 42, 180, 0, 13, 42, 180, 0, 9, 27, 145, 84, 42, 89, 180, 0, 9, 4, 96, 181, 0, 9]
abbrev dktX0_feed_1 : List UInt8 := dkwX0_feed_1 ++ dktX0_feed_2
def dkwX0_feed_0 : List UInt8 := [27, 133, 9, 20, 0, 1, 184, 0, 3, 154, 0, 5, 2, 172, 42, 180, 0, 9, 17, 0, 160, 160, 0, 6]
abbrev dktX0_feed_0 : List UInt8 := dkwX0_feed_0 ++ dktX0_feed_1
theorem dksX0_feed_0 : cX0_feed.data.toList.drop 0 = dktX0_feed_0 := by decide +kernel
theorem dksX0_feed_1 : cX0_feed.data.toList.drop 24 = dktX0_feed_1 := dk_seg dksX0_feed_0 24 rfl rfl
theorem dksX0_feed_2 : cX0_feed.data.toList.drop 48 = dktX0_feed_2 := dk_seg dksX0_feed_1 24 rfl rfl
theorem dX0_feed_0 : decode cX0_feed 0 = .ok (.iload_n 1, 1) := dk_27 (dk_at dksX0_feed_0 0 rfl rfl)
theorem dX0_feed_1 : decode cX0_feed 1 = .ok (.i2l, 1) := dk_133 (dk_at dksX0_feed_0 1 rfl rfl)
theorem dX0_feed_2 : decode cX0_feed 2 = .ok (.lconst 0, 1) := dk_9 (dk_at dksX0_feed_0 2 rfl rfl)
theorem dX0_feed_3 : decode cX0_feed 3 = .ok (.ldc2_w 1, 3) := dk_20 0 1 (dk_at dksX0_feed_0 3 rfl rfl)
theorem dX0_feed_6 : decode cX0_feed 6 = .ok (.invokestatic 3, 3) := dk_184 0 3 (dk_at dksX0_feed_0 6 rfl rfl)
theorem dX0_feed_9 : decode cX0_feed 9 = .ok (.ifCond .ne 5, 3) := dk_154 0 5 (dk_at dksX0_feed_0 9 rfl rfl)
theorem dX0_feed_12 : decode cX0_feed 12 = .ok (.iconst (-1), 1) := dk_2 (dk_at dksX0_feed_0 12 rfl rfl)
theorem dX0_feed_13 : decode cX0_feed 13 = .ok (.ireturn, 1) := dk_172 (dk_at dksX0_feed_0 13 rfl rfl)
theorem dX0_feed_14 : decode cX0_feed 14 = .ok (.aload_n 0, 1) := dk_42 (dk_at dksX0_feed_0 14 rfl rfl)
theorem dX0_feed_15 : decode cX0_feed 15 = .ok (.getfield 9, 3) := dk_180 0 9 (dk_at dksX0_feed_0 15 rfl rfl)
theorem dX0_feed_18 : decode cX0_feed 18 = .ok (.sipush 160, 3) := dk_17 0 160 (dk_at dksX0_feed_0 18 rfl rfl)
theorem dX0_feed_21 : decode cX0_feed 21 = .ok (.if_icmp .ne 6, 3) := dk_160 0 6 (dk_at dksX0_feed_0 21 rfl rfl)
theorem dX0_feed_24 : decode cX0_feed 24 = .ok (.bipush (-3), 2) := dk_16 253 (dk_at dksX0_feed_1 0 rfl rfl)
theorem dX0_feed_26 : decode cX0_feed 26 = .ok (.ireturn, 1) := dk_172 (dk_at dksX0_feed_1 2 rfl rfl)
theorem dX0_feed_27 : decode cX0_feed 27 = .ok (.aload_n 0, 1) := dk_42 (dk_at dksX0_feed_1 3 rfl rfl)
theorem dX0_feed_28 : decode cX0_feed 28 = .ok (.getfield 13, 3) := dk_180 0 13 (dk_at dksX0_feed_1 4 rfl rfl)
theorem dX0_feed_31 : decode cX0_feed 31 = .ok (.aload_n 0, 1) := dk_42 (dk_at dksX0_feed_1 7 rfl rfl)
theorem dX0_feed_32 : decode cX0_feed 32 = .ok (.getfield 9, 3) := dk_180 0 9 (dk_at dksX0_feed_1 8 rfl rfl)
theorem dX0_feed_35 : decode cX0_feed 35 = .ok (.iload_n 1, 1) := dk_27 (dk_at dksX0_feed_1 11 rfl rfl)
theorem dX0_feed_36 : decode cX0_feed 36 = .ok (.i2b, 1) := dk_145 (dk_at dksX0_feed_1 12 rfl rfl)
theorem dX0_feed_37 : decode cX0_feed 37 = .ok (.bastore, 1) := dk_84 (dk_at dksX0_feed_1 13 rfl rfl)
theorem dX0_feed_38 : decode cX0_feed 38 = .ok (.aload_n 0, 1) := dk_42 (dk_at dksX0_feed_1 14 rfl rfl)
theorem dX0_feed_39 : decode cX0_feed 39 = .ok (.dup, 1) := dk_89 (dk_at dksX0_feed_1 15 rfl rfl)
theorem dX0_feed_40 : decode cX0_feed 40 = .ok (.getfield 9, 3) := dk_180 0 9 (dk_at dksX0_feed_1 16 rfl rfl)
theorem dX0_feed_43 : decode cX0_feed 43 = .ok (.iconst 1, 1) := dk_4 (dk_at dksX0_feed_1 19 rfl rfl)
theorem dX0_feed_44 : decode cX0_feed 44 = .ok (.iadd, 1) := dk_96 (dk_at dksX0_feed_1 20 rfl rfl)
theorem dX0_feed_45 : decode cX0_feed 45 = .ok (.putfield 9, 3) := dk_181 0 9 (dk_at dksX0_feed_1 21 rfl rfl)
theorem dX0_feed_48 : decode cX0_feed 48 = .ok (.aload_n 0, 1) := dk_42 (dk_at dksX0_feed_2 0 rfl rfl)
theorem dX0_feed_49 : decode cX0_feed 49 = .ok (.getfield 9, 3) := dk_180 0 9 (dk_at dksX0_feed_2 1 rfl rfl)
theorem dX0_feed_52 : decode cX0_feed 52 = .ok (.ireturn, 1) := dk_172 (dk_at dksX0_feed_2 4 rfl rfl)
abbrev cX0_isIn : ByteArray := prog_1_method_1_code
def yX0_isIn : MethodName := ⟨RX0, "isIn", "(JJJ)Z"⟩
def dkwX0_isIn_0 : List UInt8 := [30, 32, 148, 155, 0, 14, 30, 22, 4, 148, 157, 0, 7, 4, 167, 0, 4, 3, 172]
abbrev dktX0_isIn_0 : List UInt8 := dkwX0_isIn_0 ++ []
theorem dksX0_isIn_0 : cX0_isIn.data.toList.drop 0 = dktX0_isIn_0 := by decide +kernel
theorem dX0_isIn_0 : decode cX0_isIn 0 = .ok (.lload_n 0, 1) := dk_30 (dk_at dksX0_isIn_0 0 rfl rfl)
theorem dX0_isIn_1 : decode cX0_isIn 1 = .ok (.lload_n 2, 1) := dk_32 (dk_at dksX0_isIn_0 1 rfl rfl)
theorem dX0_isIn_2 : decode cX0_isIn 2 = .ok (.lcmp, 1) := dk_148 (dk_at dksX0_isIn_0 2 rfl rfl)
theorem dX0_isIn_3 : decode cX0_isIn 3 = .ok (.ifCond .lt 14, 3) := dk_155 0 14 (dk_at dksX0_isIn_0 3 rfl rfl)
theorem dX0_isIn_6 : decode cX0_isIn 6 = .ok (.lload_n 0, 1) := dk_30 (dk_at dksX0_isIn_0 6 rfl rfl)
theorem dX0_isIn_7 : decode cX0_isIn 7 = .ok (.lload 4, 2) := dk_22 4 (dk_at dksX0_isIn_0 7 rfl rfl)
theorem dX0_isIn_9 : decode cX0_isIn 9 = .ok (.lcmp, 1) := dk_148 (dk_at dksX0_isIn_0 9 rfl rfl)
theorem dX0_isIn_10 : decode cX0_isIn 10 = .ok (.ifCond .gt 7, 3) := dk_157 0 7 (dk_at dksX0_isIn_0 10 rfl rfl)
theorem dX0_isIn_13 : decode cX0_isIn 13 = .ok (.iconst 1, 1) := dk_4 (dk_at dksX0_isIn_0 13 rfl rfl)
theorem dX0_isIn_14 : decode cX0_isIn 14 = .ok (.goto 4, 3) := dk_167 0 4 (dk_at dksX0_isIn_0 14 rfl rfl)
theorem dX0_isIn_17 : decode cX0_isIn 17 = .ok (.iconst 0, 1) := dk_3 (dk_at dksX0_isIn_0 17 rfl rfl)
theorem dX0_isIn_18 : decode cX0_isIn 18 = .ok (.ireturn, 1) := dk_172 (dk_at dksX0_isIn_0 18 rfl rfl)
abbrev cX0_end : ByteArray := prog_1_method_4_code
def yX0_end : MethodName := ⟨RX0, "end", "(I)I"⟩
def dkwX0_end_1 : List UInt8 := [181, 0, 9, 28, 172]
abbrev dktX0_end_1 : List UInt8 := dkwX0_end_1 ++ []
def dkwX0_end_0 : List UInt8 := [27, 133, 9, 42, 180, 0, 9, 133, 184, 0, 3, 154, 0, 5, 2, 172, 42, 180, 0, 9, 61, 42, 27]
abbrev dktX0_end_0 : List UInt8 := dkwX0_end_0 ++ dktX0_end_1
theorem dksX0_end_0 : cX0_end.data.toList.drop 0 = dktX0_end_0 := by decide +kernel
theorem dksX0_end_1 : cX0_end.data.toList.drop 23 = dktX0_end_1 := dk_seg dksX0_end_0 23 rfl rfl
theorem dX0_end_0 : decode cX0_end 0 = .ok (.iload_n 1, 1) := dk_27 (dk_at dksX0_end_0 0 rfl rfl)
theorem dX0_end_1 : decode cX0_end 1 = .ok (.i2l, 1) := dk_133 (dk_at dksX0_end_0 1 rfl rfl)
theorem dX0_end_2 : decode cX0_end 2 = .ok (.lconst 0, 1) := dk_9 (dk_at dksX0_end_0 2 rfl rfl)
theorem dX0_end_3 : decode cX0_end 3 = .ok (.aload_n 0, 1) := dk_42 (dk_at dksX0_end_0 3 rfl rfl)
theorem dX0_end_4 : decode cX0_end 4 = .ok (.getfield 9, 3) := dk_180 0 9 (dk_at dksX0_end_0 4 rfl rfl)
theorem dX0_end_7 : decode cX0_end 7 = .ok (.i2l, 1) := dk_133 (dk_at dksX0_end_0 7 rfl rfl)
theorem dX0_end_8 : decode cX0_end 8 = .ok (.invokestatic 3, 3) := dk_184 0 3 (dk_at dksX0_end_0 8 rfl rfl)
theorem dX0_end_11 : decode cX0_end 11 = .ok (.ifCond .ne 5, 3) := dk_154 0 5 (dk_at dksX0_end_0 11 rfl rfl)
theorem dX0_end_14 : decode cX0_end 14 = .ok (.iconst (-1), 1) := dk_2 (dk_at dksX0_end_0 14 rfl rfl)
theorem dX0_end_15 : decode cX0_end 15 = .ok (.ireturn, 1) := dk_172 (dk_at dksX0_end_0 15 rfl rfl)
theorem dX0_end_16 : decode cX0_end 16 = .ok (.aload_n 0, 1) := dk_42 (dk_at dksX0_end_0 16 rfl rfl)
theorem dX0_end_17 : decode cX0_end 17 = .ok (.getfield 9, 3) := dk_180 0 9 (dk_at dksX0_end_0 17 rfl rfl)
theorem dX0_end_20 : decode cX0_end 20 = .ok (.istore_n 2, 1) := dk_61 (dk_at dksX0_end_0 20 rfl rfl)
theorem dX0_end_21 : decode cX0_end 21 = .ok (.aload_n 0, 1) := dk_42 (dk_at dksX0_end_0 21 rfl rfl)
theorem dX0_end_22 : decode cX0_end 22 = .ok (.iload_n 1, 1) := dk_27 (dk_at dksX0_end_0 22 rfl rfl)
theorem dX0_end_23 : decode cX0_end 23 = .ok (.putfield 9, 3) := dk_181 0 9 (dk_at dksX0_end_1 0 rfl rfl)
theorem dX0_end_26 : decode cX0_end 26 = .ok (.iload_n 2, 1) := dk_28 (dk_at dksX0_end_1 3 rfl rfl)
theorem dX0_end_27 : decode cX0_end 27 = .ok (.ireturn, 1) := dk_172 (dk_at dksX0_end_1 4 rfl rfl)
abbrev cX0_text : ByteArray := prog_1_method_5_code
def yX0_text : MethodName := ⟨RX0, "text", "()I"⟩
def dkwX0_text_5 : List UInt8 := [16, 246, 44, 180, 0, 83, 100, 172]
abbrev dktX0_text_5 : List UInt8 := dkwX0_text_5 ++ []
def dkwX0_text_4 : List UInt8 := [3, 181, 0, 66, 42, 3, 181, 0, 72, 44, 180, 0, 75, 172, 77, 42, 44, 180, 0, 80, 181, 0, 72]
abbrev dktX0_text_4 : List UInt8 := dkwX0_text_4 ++ dktX0_text_5
def dkwX0_text_3 : List UInt8 := [181, 0, 58, 42, 3, 181, 0, 59, 42, 180, 0, 62, 3, 50, 3, 181, 0, 66, 42, 180, 0, 62, 4, 50]
abbrev dktX0_text_3 : List UInt8 := dkwX0_text_3 ++ dktX0_text_4
def dkwX0_text_2 : List UInt8 := [182, 0, 40, 42, 44, 180, 0, 46, 181, 0, 50, 42, 44, 180, 0, 51, 181, 0, 54, 42, 44, 180, 0, 55]
abbrev dktX0_text_2 : List UInt8 := dkwX0_text_2 ++ dktX0_text_3
def dkwX0_text_1 : List UInt8 := [181, 0, 9, 187, 0, 23, 89, 43, 183, 0, 25, 77, 44, 182, 0, 29, 42, 180, 0, 33, 44, 180, 0, 37]
abbrev dktX0_text_1 : List UInt8 := dkwX0_text_1 ++ dktX0_text_2
def dkwX0_text_0 : List UInt8 := [42, 180, 0, 9, 188, 8, 76, 42, 180, 0, 13, 3, 43, 3, 42, 180, 0, 9, 184, 0, 17, 42, 3]
abbrev dktX0_text_0 : List UInt8 := dkwX0_text_0 ++ dktX0_text_1
theorem dksX0_text_0 : cX0_text.data.toList.drop 0 = dktX0_text_0 := by decide +kernel
theorem dksX0_text_1 : cX0_text.data.toList.drop 23 = dktX0_text_1 := dk_seg dksX0_text_0 23 rfl rfl
theorem dksX0_text_2 : cX0_text.data.toList.drop 47 = dktX0_text_2 := dk_seg dksX0_text_1 24 rfl rfl
theorem dksX0_text_3 : cX0_text.data.toList.drop 71 = dktX0_text_3 := dk_seg dksX0_text_2 24 rfl rfl
theorem dksX0_text_4 : cX0_text.data.toList.drop 95 = dktX0_text_4 := dk_seg dksX0_text_3 24 rfl rfl
theorem dksX0_text_5 : cX0_text.data.toList.drop 118 = dktX0_text_5 := dk_seg dksX0_text_4 23 rfl rfl
theorem dX0_text_0 : decode cX0_text 0 = .ok (.aload_n 0, 1) := dk_42 (dk_at dksX0_text_0 0 rfl rfl)
theorem dX0_text_1 : decode cX0_text 1 = .ok (.getfield 9, 3) := dk_180 0 9 (dk_at dksX0_text_0 1 rfl rfl)
theorem dX0_text_4 : decode cX0_text 4 = .ok (.newarray .byte, 2) := dk_188_8 (dk_at dksX0_text_0 4 rfl rfl)
theorem dX0_text_6 : decode cX0_text 6 = .ok (.astore_n 1, 1) := dk_76 (dk_at dksX0_text_0 6 rfl rfl)
theorem dX0_text_7 : decode cX0_text 7 = .ok (.aload_n 0, 1) := dk_42 (dk_at dksX0_text_0 7 rfl rfl)
theorem dX0_text_8 : decode cX0_text 8 = .ok (.getfield 13, 3) := dk_180 0 13 (dk_at dksX0_text_0 8 rfl rfl)
theorem dX0_text_11 : decode cX0_text 11 = .ok (.iconst 0, 1) := dk_3 (dk_at dksX0_text_0 11 rfl rfl)
theorem dX0_text_12 : decode cX0_text 12 = .ok (.aload_n 1, 1) := dk_43 (dk_at dksX0_text_0 12 rfl rfl)
theorem dX0_text_13 : decode cX0_text 13 = .ok (.iconst 0, 1) := dk_3 (dk_at dksX0_text_0 13 rfl rfl)
theorem dX0_text_14 : decode cX0_text 14 = .ok (.aload_n 0, 1) := dk_42 (dk_at dksX0_text_0 14 rfl rfl)
theorem dX0_text_15 : decode cX0_text 15 = .ok (.getfield 9, 3) := dk_180 0 9 (dk_at dksX0_text_0 15 rfl rfl)
theorem dX0_text_18 : decode cX0_text 18 = .ok (.invokestatic 17, 3) := dk_184 0 17 (dk_at dksX0_text_0 18 rfl rfl)
theorem dX0_text_21 : decode cX0_text 21 = .ok (.aload_n 0, 1) := dk_42 (dk_at dksX0_text_0 21 rfl rfl)
theorem dX0_text_22 : decode cX0_text 22 = .ok (.iconst 0, 1) := dk_3 (dk_at dksX0_text_0 22 rfl rfl)
theorem dX0_text_23 : decode cX0_text 23 = .ok (.putfield 9, 3) := dk_181 0 9 (dk_at dksX0_text_1 0 rfl rfl)
theorem dX0_text_26 : decode cX0_text 26 = .ok (.new 23, 3) := dk_187 0 23 (dk_at dksX0_text_1 3 rfl rfl)
theorem dX0_text_29 : decode cX0_text 29 = .ok (.dup, 1) := dk_89 (dk_at dksX0_text_1 6 rfl rfl)
theorem dX0_text_30 : decode cX0_text 30 = .ok (.aload_n 1, 1) := dk_43 (dk_at dksX0_text_1 7 rfl rfl)
theorem dX0_text_31 : decode cX0_text 31 = .ok (.invokespecial 25, 3) := dk_183 0 25 (dk_at dksX0_text_1 8 rfl rfl)
theorem dX0_text_34 : decode cX0_text 34 = .ok (.astore_n 2, 1) := dk_77 (dk_at dksX0_text_1 11 rfl rfl)
theorem dX0_text_35 : decode cX0_text 35 = .ok (.aload_n 2, 1) := dk_44 (dk_at dksX0_text_1 12 rfl rfl)
theorem dX0_text_36 : decode cX0_text 36 = .ok (.invokevirtual 29, 3) := dk_182 0 29 (dk_at dksX0_text_1 13 rfl rfl)
theorem dX0_text_39 : decode cX0_text 39 = .ok (.aload_n 0, 1) := dk_42 (dk_at dksX0_text_1 16 rfl rfl)
theorem dX0_text_40 : decode cX0_text 40 = .ok (.getfield 33, 3) := dk_180 0 33 (dk_at dksX0_text_1 17 rfl rfl)
theorem dX0_text_43 : decode cX0_text 43 = .ok (.aload_n 2, 1) := dk_44 (dk_at dksX0_text_1 20 rfl rfl)
theorem dX0_text_44 : decode cX0_text 44 = .ok (.getfield 37, 3) := dk_180 0 37 (dk_at dksX0_text_1 21 rfl rfl)
theorem dX0_text_47 : decode cX0_text 47 = .ok (.invokevirtual 40, 3) := dk_182 0 40 (dk_at dksX0_text_2 0 rfl rfl)
theorem dX0_text_50 : decode cX0_text 50 = .ok (.aload_n 0, 1) := dk_42 (dk_at dksX0_text_2 3 rfl rfl)
theorem dX0_text_51 : decode cX0_text 51 = .ok (.aload_n 2, 1) := dk_44 (dk_at dksX0_text_2 4 rfl rfl)
theorem dX0_text_52 : decode cX0_text 52 = .ok (.getfield 46, 3) := dk_180 0 46 (dk_at dksX0_text_2 5 rfl rfl)
theorem dX0_text_55 : decode cX0_text 55 = .ok (.putfield 50, 3) := dk_181 0 50 (dk_at dksX0_text_2 8 rfl rfl)
theorem dX0_text_58 : decode cX0_text 58 = .ok (.aload_n 0, 1) := dk_42 (dk_at dksX0_text_2 11 rfl rfl)
theorem dX0_text_59 : decode cX0_text 59 = .ok (.aload_n 2, 1) := dk_44 (dk_at dksX0_text_2 12 rfl rfl)
theorem dX0_text_60 : decode cX0_text 60 = .ok (.getfield 51, 3) := dk_180 0 51 (dk_at dksX0_text_2 13 rfl rfl)
theorem dX0_text_63 : decode cX0_text 63 = .ok (.putfield 54, 3) := dk_181 0 54 (dk_at dksX0_text_2 16 rfl rfl)
theorem dX0_text_66 : decode cX0_text 66 = .ok (.aload_n 0, 1) := dk_42 (dk_at dksX0_text_2 19 rfl rfl)
theorem dX0_text_67 : decode cX0_text 67 = .ok (.aload_n 2, 1) := dk_44 (dk_at dksX0_text_2 20 rfl rfl)
theorem dX0_text_68 : decode cX0_text 68 = .ok (.getfield 55, 3) := dk_180 0 55 (dk_at dksX0_text_2 21 rfl rfl)
theorem dX0_text_71 : decode cX0_text 71 = .ok (.putfield 58, 3) := dk_181 0 58 (dk_at dksX0_text_3 0 rfl rfl)
theorem dX0_text_74 : decode cX0_text 74 = .ok (.aload_n 0, 1) := dk_42 (dk_at dksX0_text_3 3 rfl rfl)
theorem dX0_text_75 : decode cX0_text 75 = .ok (.iconst 0, 1) := dk_3 (dk_at dksX0_text_3 4 rfl rfl)
theorem dX0_text_76 : decode cX0_text 76 = .ok (.putfield 59, 3) := dk_181 0 59 (dk_at dksX0_text_3 5 rfl rfl)
theorem dX0_text_79 : decode cX0_text 79 = .ok (.aload_n 0, 1) := dk_42 (dk_at dksX0_text_3 8 rfl rfl)
theorem dX0_text_80 : decode cX0_text 80 = .ok (.getfield 62, 3) := dk_180 0 62 (dk_at dksX0_text_3 9 rfl rfl)
theorem dX0_text_83 : decode cX0_text 83 = .ok (.iconst 0, 1) := dk_3 (dk_at dksX0_text_3 12 rfl rfl)
theorem dX0_text_84 : decode cX0_text 84 = .ok (.aaload, 1) := dk_50 (dk_at dksX0_text_3 13 rfl rfl)
theorem dX0_text_85 : decode cX0_text 85 = .ok (.iconst 0, 1) := dk_3 (dk_at dksX0_text_3 14 rfl rfl)
theorem dX0_text_86 : decode cX0_text 86 = .ok (.putfield 66, 3) := dk_181 0 66 (dk_at dksX0_text_3 15 rfl rfl)
theorem dX0_text_89 : decode cX0_text 89 = .ok (.aload_n 0, 1) := dk_42 (dk_at dksX0_text_3 18 rfl rfl)
theorem dX0_text_90 : decode cX0_text 90 = .ok (.getfield 62, 3) := dk_180 0 62 (dk_at dksX0_text_3 19 rfl rfl)
theorem dX0_text_93 : decode cX0_text 93 = .ok (.iconst 1, 1) := dk_4 (dk_at dksX0_text_3 22 rfl rfl)
theorem dX0_text_94 : decode cX0_text 94 = .ok (.aaload, 1) := dk_50 (dk_at dksX0_text_3 23 rfl rfl)
theorem dX0_text_95 : decode cX0_text 95 = .ok (.iconst 0, 1) := dk_3 (dk_at dksX0_text_4 0 rfl rfl)
theorem dX0_text_96 : decode cX0_text 96 = .ok (.putfield 66, 3) := dk_181 0 66 (dk_at dksX0_text_4 1 rfl rfl)
theorem dX0_text_99 : decode cX0_text 99 = .ok (.aload_n 0, 1) := dk_42 (dk_at dksX0_text_4 4 rfl rfl)
theorem dX0_text_100 : decode cX0_text 100 = .ok (.iconst 0, 1) := dk_3 (dk_at dksX0_text_4 5 rfl rfl)
theorem dX0_text_101 : decode cX0_text 101 = .ok (.putfield 72, 3) := dk_181 0 72 (dk_at dksX0_text_4 6 rfl rfl)
theorem dX0_text_104 : decode cX0_text 104 = .ok (.aload_n 2, 1) := dk_44 (dk_at dksX0_text_4 9 rfl rfl)
theorem dX0_text_105 : decode cX0_text 105 = .ok (.getfield 75, 3) := dk_180 0 75 (dk_at dksX0_text_4 10 rfl rfl)
theorem dX0_text_108 : decode cX0_text 108 = .ok (.ireturn, 1) := dk_172 (dk_at dksX0_text_4 13 rfl rfl)
theorem dX0_text_109 : decode cX0_text 109 = .ok (.astore_n 2, 1) := dk_77 (dk_at dksX0_text_4 14 rfl rfl)
theorem dX0_text_110 : decode cX0_text 110 = .ok (.aload_n 0, 1) := dk_42 (dk_at dksX0_text_4 15 rfl rfl)
theorem dX0_text_111 : decode cX0_text 111 = .ok (.aload_n 2, 1) := dk_44 (dk_at dksX0_text_4 16 rfl rfl)
theorem dX0_text_112 : decode cX0_text 112 = .ok (.getfield 80, 3) := dk_180 0 80 (dk_at dksX0_text_4 17 rfl rfl)
theorem dX0_text_115 : decode cX0_text 115 = .ok (.putfield 72, 3) := dk_181 0 72 (dk_at dksX0_text_4 20 rfl rfl)
theorem dX0_text_118 : decode cX0_text 118 = .ok (.bipush (-10), 2) := dk_16 246 (dk_at dksX0_text_5 0 rfl rfl)
theorem dX0_text_120 : decode cX0_text 120 = .ok (.aload_n 2, 1) := dk_44 (dk_at dksX0_text_5 2 rfl rfl)
theorem dX0_text_121 : decode cX0_text 121 = .ok (.getfield 83, 3) := dk_180 0 83 (dk_at dksX0_text_5 3 rfl rfl)
theorem dX0_text_124 : decode cX0_text 124 = .ok (.isub, 1) := dk_100 (dk_at dksX0_text_5 6 rfl rfl)
theorem dX0_text_125 : decode cX0_text 125 = .ok (.ireturn, 1) := dk_172 (dk_at dksX0_text_5 7 rfl rfl)
abbrev cX0_has : ByteArray := prog_1_method_2_code
def yX0_has : MethodName := ⟨RX0, "has", "(II)Z"⟩
def dkwX0_has_0 : List UInt8 := [26, 27, 122, 4, 126, 4, 160, 0, 7, 4, 167, 0, 4, 3, 172]
abbrev dktX0_has_0 : List UInt8 := dkwX0_has_0 ++ []
theorem dksX0_has_0 : cX0_has.data.toList.drop 0 = dktX0_has_0 := by decide +kernel
theorem dX0_has_0 : decode cX0_has 0 = .ok (.iload_n 0, 1) := dk_26 (dk_at dksX0_has_0 0 rfl rfl)
theorem dX0_has_1 : decode cX0_has 1 = .ok (.iload_n 1, 1) := dk_27 (dk_at dksX0_has_0 1 rfl rfl)
theorem dX0_has_2 : decode cX0_has 2 = .ok (.ishr, 1) := dk_122 (dk_at dksX0_has_0 2 rfl rfl)
theorem dX0_has_3 : decode cX0_has 3 = .ok (.iconst 1, 1) := dk_4 (dk_at dksX0_has_0 3 rfl rfl)
theorem dX0_has_4 : decode cX0_has 4 = .ok (.iand, 1) := dk_126 (dk_at dksX0_has_0 4 rfl rfl)
theorem dX0_has_5 : decode cX0_has 5 = .ok (.iconst 1, 1) := dk_4 (dk_at dksX0_has_0 5 rfl rfl)
theorem dX0_has_6 : decode cX0_has 6 = .ok (.if_icmp .ne 7, 3) := dk_160 0 7 (dk_at dksX0_has_0 6 rfl rfl)
theorem dX0_has_9 : decode cX0_has 9 = .ok (.iconst 1, 1) := dk_4 (dk_at dksX0_has_0 9 rfl rfl)
theorem dX0_has_10 : decode cX0_has 10 = .ok (.goto 4, 3) := dk_167 0 4 (dk_at dksX0_has_0 10 rfl rfl)
theorem dX0_has_13 : decode cX0_has 13 = .ok (.iconst 0, 1) := dk_3 (dk_at dksX0_has_0 13 rfl rfl)
theorem dX0_has_14 : decode cX0_has 14 = .ok (.ireturn, 1) := dk_172 (dk_at dksX0_has_0 14 rfl rfl)
abbrev cX0_fault : ByteArray := prog_1_method_6_code
def yX0_fault : MethodName := ⟨RX0, "fault", "()I"⟩
theorem dX0_fault_0 : decode cX0_fault 0 = .ok (.aload_n 0, 1) := by decide +kernel
theorem dX0_fault_1 : decode cX0_fault 1 = .ok (.getfield 72, 3) := by decide +kernel
theorem dX0_fault_4 : decode cX0_fault 4 = .ok (.ireturn, 1) := by decide +kernel
abbrev cX0_rule : ByteArray := prog_1_method_10_code
def yX0_rule : MethodName := ⟨RX0, "rule", "(I)I"⟩
def dkwX0_rule_4 : List UInt8 := [180, 0, 33, 182, 0, 99, 172, 42, 180, 0, 33, 180, 0, 103, 172, 2, 172]
abbrev dktX0_rule_4 : List UInt8 := dkwX0_rule_4 ++ []
def dkwX0_rule_3 : List UInt8 := [180, 0, 89, 172, 42, 180, 0, 33, 180, 0, 92, 172, 42, 180, 0, 33, 16, 252, 182, 0, 95, 172, 42]
abbrev dktX0_rule_3 : List UInt8 := dkwX0_rule_3 ++ dktX0_rule_4
def dkwX0_rule_2 : List UInt8 := [42, 180, 0, 54, 172, 42, 180, 0, 33, 180, 0, 86, 172, 42, 180, 0, 58, 172, 42, 180, 0, 33]
abbrev dktX0_rule_2 : List UInt8 := dkwX0_rule_2 ++ dktX0_rule_3
def dkwX0_rule_1 : List UInt8 := [170, 0, 0, 0, 0, 0, 107, 0, 0, 0, 0, 0, 0, 0, 7, 0, 0, 0, 47, 0, 0, 0, 52, 0, 0, 0, 60, 0, 0, 0, 65, 0, 0, 0, 73, 0, 0, 0, 81, 0, 0, 0, 91, 0, 0, 0, 99]
abbrev dktX0_rule_1 : List UInt8 := dkwX0_rule_1 ++ dktX0_rule_2
def dkwX0_rule_0 : List UInt8 := [27]
abbrev dktX0_rule_0 : List UInt8 := dkwX0_rule_0 ++ dktX0_rule_1
theorem dksX0_rule_0 : cX0_rule.data.toList.drop 0 = dktX0_rule_0 := by decide +kernel
theorem dksX0_rule_1 : cX0_rule.data.toList.drop 1 = dktX0_rule_1 := dk_seg dksX0_rule_0 1 rfl rfl
theorem dksX0_rule_2 : cX0_rule.data.toList.drop 48 = dktX0_rule_2 := dk_seg dksX0_rule_1 47 rfl rfl
theorem dksX0_rule_3 : cX0_rule.data.toList.drop 70 = dktX0_rule_3 := dk_seg dksX0_rule_2 22 rfl rfl
theorem dksX0_rule_4 : cX0_rule.data.toList.drop 93 = dktX0_rule_4 := dk_seg dksX0_rule_3 23 rfl rfl
theorem dX0_rule_0 : decode cX0_rule 0 = .ok (.iload_n 1, 1) := dk_27 (dk_at dksX0_rule_0 0 rfl rfl)
theorem dX0_rule_1 : decode cX0_rule 1 = .ok (.tableswitch 107 0 7 #[47, 52, 60, 65, 73, 81, 91, 99], 47) := by decide +kernel
theorem dX0_rule_48 : decode cX0_rule 48 = .ok (.aload_n 0, 1) := dk_42 (dk_at dksX0_rule_2 0 rfl rfl)
theorem dX0_rule_49 : decode cX0_rule 49 = .ok (.getfield 54, 3) := dk_180 0 54 (dk_at dksX0_rule_2 1 rfl rfl)
theorem dX0_rule_52 : decode cX0_rule 52 = .ok (.ireturn, 1) := dk_172 (dk_at dksX0_rule_2 4 rfl rfl)
theorem dX0_rule_53 : decode cX0_rule 53 = .ok (.aload_n 0, 1) := dk_42 (dk_at dksX0_rule_2 5 rfl rfl)
theorem dX0_rule_54 : decode cX0_rule 54 = .ok (.getfield 33, 3) := dk_180 0 33 (dk_at dksX0_rule_2 6 rfl rfl)
theorem dX0_rule_57 : decode cX0_rule 57 = .ok (.getfield 86, 3) := dk_180 0 86 (dk_at dksX0_rule_2 9 rfl rfl)
theorem dX0_rule_60 : decode cX0_rule 60 = .ok (.ireturn, 1) := dk_172 (dk_at dksX0_rule_2 12 rfl rfl)
theorem dX0_rule_61 : decode cX0_rule 61 = .ok (.aload_n 0, 1) := dk_42 (dk_at dksX0_rule_2 13 rfl rfl)
theorem dX0_rule_62 : decode cX0_rule 62 = .ok (.getfield 58, 3) := dk_180 0 58 (dk_at dksX0_rule_2 14 rfl rfl)
theorem dX0_rule_65 : decode cX0_rule 65 = .ok (.ireturn, 1) := dk_172 (dk_at dksX0_rule_2 17 rfl rfl)
theorem dX0_rule_66 : decode cX0_rule 66 = .ok (.aload_n 0, 1) := dk_42 (dk_at dksX0_rule_2 18 rfl rfl)
theorem dX0_rule_67 : decode cX0_rule 67 = .ok (.getfield 33, 3) := dk_180 0 33 (dk_at dksX0_rule_2 19 rfl rfl)
theorem dX0_rule_70 : decode cX0_rule 70 = .ok (.getfield 89, 3) := dk_180 0 89 (dk_at dksX0_rule_3 0 rfl rfl)
theorem dX0_rule_73 : decode cX0_rule 73 = .ok (.ireturn, 1) := dk_172 (dk_at dksX0_rule_3 3 rfl rfl)
theorem dX0_rule_74 : decode cX0_rule 74 = .ok (.aload_n 0, 1) := dk_42 (dk_at dksX0_rule_3 4 rfl rfl)
theorem dX0_rule_75 : decode cX0_rule 75 = .ok (.getfield 33, 3) := dk_180 0 33 (dk_at dksX0_rule_3 5 rfl rfl)
theorem dX0_rule_78 : decode cX0_rule 78 = .ok (.getfield 92, 3) := dk_180 0 92 (dk_at dksX0_rule_3 8 rfl rfl)
theorem dX0_rule_81 : decode cX0_rule 81 = .ok (.ireturn, 1) := dk_172 (dk_at dksX0_rule_3 11 rfl rfl)
theorem dX0_rule_82 : decode cX0_rule 82 = .ok (.aload_n 0, 1) := dk_42 (dk_at dksX0_rule_3 12 rfl rfl)
theorem dX0_rule_83 : decode cX0_rule 83 = .ok (.getfield 33, 3) := dk_180 0 33 (dk_at dksX0_rule_3 13 rfl rfl)
theorem dX0_rule_86 : decode cX0_rule 86 = .ok (.bipush (-4), 2) := dk_16 252 (dk_at dksX0_rule_3 16 rfl rfl)
theorem dX0_rule_88 : decode cX0_rule 88 = .ok (.invokevirtual 95, 3) := dk_182 0 95 (dk_at dksX0_rule_3 18 rfl rfl)
theorem dX0_rule_91 : decode cX0_rule 91 = .ok (.ireturn, 1) := dk_172 (dk_at dksX0_rule_3 21 rfl rfl)
theorem dX0_rule_92 : decode cX0_rule 92 = .ok (.aload_n 0, 1) := dk_42 (dk_at dksX0_rule_3 22 rfl rfl)
theorem dX0_rule_93 : decode cX0_rule 93 = .ok (.getfield 33, 3) := dk_180 0 33 (dk_at dksX0_rule_4 0 rfl rfl)
theorem dX0_rule_96 : decode cX0_rule 96 = .ok (.invokevirtual 99, 3) := dk_182 0 99 (dk_at dksX0_rule_4 3 rfl rfl)
theorem dX0_rule_99 : decode cX0_rule 99 = .ok (.ireturn, 1) := dk_172 (dk_at dksX0_rule_4 6 rfl rfl)
theorem dX0_rule_100 : decode cX0_rule 100 = .ok (.aload_n 0, 1) := dk_42 (dk_at dksX0_rule_4 7 rfl rfl)
theorem dX0_rule_101 : decode cX0_rule 101 = .ok (.getfield 33, 3) := dk_180 0 33 (dk_at dksX0_rule_4 8 rfl rfl)
theorem dX0_rule_104 : decode cX0_rule 104 = .ok (.getfield 103, 3) := dk_180 0 103 (dk_at dksX0_rule_4 11 rfl rfl)
theorem dX0_rule_107 : decode cX0_rule 107 = .ok (.ireturn, 1) := dk_172 (dk_at dksX0_rule_4 14 rfl rfl)
theorem dX0_rule_108 : decode cX0_rule 108 = .ok (.iconst (-1), 1) := dk_2 (dk_at dksX0_rule_4 15 rfl rfl)
theorem dX0_rule_109 : decode cX0_rule 109 = .ok (.ireturn, 1) := dk_172 (dk_at dksX0_rule_4 16 rfl rfl)
abbrev cX0_pen : ByteArray := prog_1_method_11_code
def yX0_pen : MethodName := ⟨RX0, "pen", "(II)I"⟩
def dkwX0_pen_2 : List UInt8 := [180, 0, 33, 180, 0, 116, 27, 46, 167, 0, 11, 42, 180, 0, 33, 27, 182, 0, 95, 172]
abbrev dktX0_pen_2 : List UInt8 := dkwX0_pen_2 ++ []
def dkwX0_pen_1 : List UInt8 := [28, 154, 0, 15, 42, 180, 0, 33, 180, 0, 112, 27, 46, 167, 0, 28, 28, 4, 160, 0, 15, 42]
abbrev dktX0_pen_1 : List UInt8 := dkwX0_pen_1 ++ dktX0_pen_2
def dkwX0_pen_0 : List UInt8 := [42, 27, 182, 0, 106, 153, 0, 15, 28, 133, 9, 20, 0, 110, 184, 0, 3, 154, 0, 7, 2, 167, 0, 44]
abbrev dktX0_pen_0 : List UInt8 := dkwX0_pen_0 ++ dktX0_pen_1
theorem dksX0_pen_0 : cX0_pen.data.toList.drop 0 = dktX0_pen_0 := by decide +kernel
theorem dksX0_pen_1 : cX0_pen.data.toList.drop 24 = dktX0_pen_1 := dk_seg dksX0_pen_0 24 rfl rfl
theorem dksX0_pen_2 : cX0_pen.data.toList.drop 46 = dktX0_pen_2 := dk_seg dksX0_pen_1 22 rfl rfl
theorem dX0_pen_0 : decode cX0_pen 0 = .ok (.aload_n 0, 1) := dk_42 (dk_at dksX0_pen_0 0 rfl rfl)
theorem dX0_pen_1 : decode cX0_pen 1 = .ok (.iload_n 1, 1) := dk_27 (dk_at dksX0_pen_0 1 rfl rfl)
theorem dX0_pen_2 : decode cX0_pen 2 = .ok (.invokevirtual 106, 3) := dk_182 0 106 (dk_at dksX0_pen_0 2 rfl rfl)
theorem dX0_pen_5 : decode cX0_pen 5 = .ok (.ifCond .eq 15, 3) := dk_153 0 15 (dk_at dksX0_pen_0 5 rfl rfl)
theorem dX0_pen_8 : decode cX0_pen 8 = .ok (.iload_n 2, 1) := dk_28 (dk_at dksX0_pen_0 8 rfl rfl)
theorem dX0_pen_9 : decode cX0_pen 9 = .ok (.i2l, 1) := dk_133 (dk_at dksX0_pen_0 9 rfl rfl)
theorem dX0_pen_10 : decode cX0_pen 10 = .ok (.lconst 0, 1) := dk_9 (dk_at dksX0_pen_0 10 rfl rfl)
theorem dX0_pen_11 : decode cX0_pen 11 = .ok (.ldc2_w 110, 3) := dk_20 0 110 (dk_at dksX0_pen_0 11 rfl rfl)
theorem dX0_pen_14 : decode cX0_pen 14 = .ok (.invokestatic 3, 3) := dk_184 0 3 (dk_at dksX0_pen_0 14 rfl rfl)
theorem dX0_pen_17 : decode cX0_pen 17 = .ok (.ifCond .ne 7, 3) := dk_154 0 7 (dk_at dksX0_pen_0 17 rfl rfl)
theorem dX0_pen_20 : decode cX0_pen 20 = .ok (.iconst (-1), 1) := dk_2 (dk_at dksX0_pen_0 20 rfl rfl)
theorem dX0_pen_21 : decode cX0_pen 21 = .ok (.goto 44, 3) := dk_167 0 44 (dk_at dksX0_pen_0 21 rfl rfl)
theorem dX0_pen_24 : decode cX0_pen 24 = .ok (.iload_n 2, 1) := dk_28 (dk_at dksX0_pen_1 0 rfl rfl)
theorem dX0_pen_25 : decode cX0_pen 25 = .ok (.ifCond .ne 15, 3) := dk_154 0 15 (dk_at dksX0_pen_1 1 rfl rfl)
theorem dX0_pen_28 : decode cX0_pen 28 = .ok (.aload_n 0, 1) := dk_42 (dk_at dksX0_pen_1 4 rfl rfl)
theorem dX0_pen_29 : decode cX0_pen 29 = .ok (.getfield 33, 3) := dk_180 0 33 (dk_at dksX0_pen_1 5 rfl rfl)
theorem dX0_pen_32 : decode cX0_pen 32 = .ok (.getfield 112, 3) := dk_180 0 112 (dk_at dksX0_pen_1 8 rfl rfl)
theorem dX0_pen_35 : decode cX0_pen 35 = .ok (.iload_n 1, 1) := dk_27 (dk_at dksX0_pen_1 11 rfl rfl)
theorem dX0_pen_36 : decode cX0_pen 36 = .ok (.iaload, 1) := dk_46 (dk_at dksX0_pen_1 12 rfl rfl)
theorem dX0_pen_37 : decode cX0_pen 37 = .ok (.goto 28, 3) := dk_167 0 28 (dk_at dksX0_pen_1 13 rfl rfl)
theorem dX0_pen_40 : decode cX0_pen 40 = .ok (.iload_n 2, 1) := dk_28 (dk_at dksX0_pen_1 16 rfl rfl)
theorem dX0_pen_41 : decode cX0_pen 41 = .ok (.iconst 1, 1) := dk_4 (dk_at dksX0_pen_1 17 rfl rfl)
theorem dX0_pen_42 : decode cX0_pen 42 = .ok (.if_icmp .ne 15, 3) := dk_160 0 15 (dk_at dksX0_pen_1 18 rfl rfl)
theorem dX0_pen_45 : decode cX0_pen 45 = .ok (.aload_n 0, 1) := dk_42 (dk_at dksX0_pen_1 21 rfl rfl)
theorem dX0_pen_46 : decode cX0_pen 46 = .ok (.getfield 33, 3) := dk_180 0 33 (dk_at dksX0_pen_2 0 rfl rfl)
theorem dX0_pen_49 : decode cX0_pen 49 = .ok (.getfield 116, 3) := dk_180 0 116 (dk_at dksX0_pen_2 3 rfl rfl)
theorem dX0_pen_52 : decode cX0_pen 52 = .ok (.iload_n 1, 1) := dk_27 (dk_at dksX0_pen_2 6 rfl rfl)
theorem dX0_pen_53 : decode cX0_pen 53 = .ok (.iaload, 1) := dk_46 (dk_at dksX0_pen_2 7 rfl rfl)
theorem dX0_pen_54 : decode cX0_pen 54 = .ok (.goto 11, 3) := dk_167 0 11 (dk_at dksX0_pen_2 8 rfl rfl)
theorem dX0_pen_57 : decode cX0_pen 57 = .ok (.aload_n 0, 1) := dk_42 (dk_at dksX0_pen_2 11 rfl rfl)
theorem dX0_pen_58 : decode cX0_pen 58 = .ok (.getfield 33, 3) := dk_180 0 33 (dk_at dksX0_pen_2 12 rfl rfl)
theorem dX0_pen_61 : decode cX0_pen 61 = .ok (.iload_n 1, 1) := dk_27 (dk_at dksX0_pen_2 15 rfl rfl)
theorem dX0_pen_62 : decode cX0_pen 62 = .ok (.invokevirtual 95, 3) := dk_182 0 95 (dk_at dksX0_pen_2 16 rfl rfl)
theorem dX0_pen_65 : decode cX0_pen 65 = .ok (.ireturn, 1) := dk_172 (dk_at dksX0_pen_2 19 rfl rfl)
abbrev cX0_isPen : ByteArray := prog_1_method_7_code
def yX0_isPen : MethodName := ⟨RX0, "isPen", "(I)Z"⟩
def dkwX0_isPen_0 : List UInt8 := [27, 133, 9, 42, 180, 0, 54, 4, 100, 133, 184, 0, 3, 172]
abbrev dktX0_isPen_0 : List UInt8 := dkwX0_isPen_0 ++ []
theorem dksX0_isPen_0 : cX0_isPen.data.toList.drop 0 = dktX0_isPen_0 := by decide +kernel
theorem dX0_isPen_0 : decode cX0_isPen 0 = .ok (.iload_n 1, 1) := dk_27 (dk_at dksX0_isPen_0 0 rfl rfl)
theorem dX0_isPen_1 : decode cX0_isPen 1 = .ok (.i2l, 1) := dk_133 (dk_at dksX0_isPen_0 1 rfl rfl)
theorem dX0_isPen_2 : decode cX0_isPen 2 = .ok (.lconst 0, 1) := dk_9 (dk_at dksX0_isPen_0 2 rfl rfl)
theorem dX0_isPen_3 : decode cX0_isPen 3 = .ok (.aload_n 0, 1) := dk_42 (dk_at dksX0_isPen_0 3 rfl rfl)
theorem dX0_isPen_4 : decode cX0_isPen 4 = .ok (.getfield 54, 3) := dk_180 0 54 (dk_at dksX0_isPen_0 4 rfl rfl)
theorem dX0_isPen_7 : decode cX0_isPen 7 = .ok (.iconst 1, 1) := dk_4 (dk_at dksX0_isPen_0 7 rfl rfl)
theorem dX0_isPen_8 : decode cX0_isPen 8 = .ok (.isub, 1) := dk_100 (dk_at dksX0_isPen_0 8 rfl rfl)
theorem dX0_isPen_9 : decode cX0_isPen 9 = .ok (.i2l, 1) := dk_133 (dk_at dksX0_isPen_0 9 rfl rfl)
theorem dX0_isPen_10 : decode cX0_isPen 10 = .ok (.invokestatic 3, 3) := dk_184 0 3 (dk_at dksX0_isPen_0 10 rfl rfl)
theorem dX0_isPen_13 : decode cX0_isPen 13 = .ok (.ireturn, 1) := dk_172 (dk_at dksX0_isPen_0 13 rfl rfl)
abbrev cX0_echo : ByteArray := prog_1_method_12_code
def yX0_echo : MethodName := ⟨RX0, "echo", "(II)I"⟩
def dkwX0_echo_4 : List UInt8 := [172, 42, 180, 0, 33, 27, 182, 0, 137, 172, 2, 172]
abbrev dktX0_echo_4 : List UInt8 := dkwX0_echo_4 ++ []
def dkwX0_echo_3 : List UInt8 := [180, 0, 128, 27, 46, 172, 42, 180, 0, 33, 27, 182, 0, 131, 172, 42, 180, 0, 33, 180, 0, 134, 27, 46]
abbrev dktX0_echo_3 : List UInt8 := dkwX0_echo_3 ++ dktX0_echo_4
def dkwX0_echo_2 : List UInt8 := [42, 180, 0, 33, 180, 0, 122, 27, 46, 172, 42, 180, 0, 33, 180, 0, 125, 27, 46, 172, 42, 180, 0, 33]
abbrev dktX0_echo_2 : List UInt8 := dkwX0_echo_2 ++ dktX0_echo_3
def dkwX0_echo_1 : List UInt8 := [170, 0, 0, 0, 95, 0, 0, 0, 0, 0, 0, 0, 5, 0, 0, 0, 37, 0, 0, 0, 47, 0, 0, 0, 57, 0, 0, 0, 67, 0, 0, 0, 76, 0, 0, 0, 86]
abbrev dktX0_echo_1 : List UInt8 := dkwX0_echo_1 ++ dktX0_echo_2
def dkwX0_echo_0 : List UInt8 := [42, 27, 182, 0, 119, 154, 0, 5, 2, 172, 28]
abbrev dktX0_echo_0 : List UInt8 := dkwX0_echo_0 ++ dktX0_echo_1
theorem dksX0_echo_0 : cX0_echo.data.toList.drop 0 = dktX0_echo_0 := by decide +kernel
theorem dksX0_echo_1 : cX0_echo.data.toList.drop 11 = dktX0_echo_1 := dk_seg dksX0_echo_0 11 rfl rfl
theorem dksX0_echo_2 : cX0_echo.data.toList.drop 48 = dktX0_echo_2 := dk_seg dksX0_echo_1 37 rfl rfl
theorem dksX0_echo_3 : cX0_echo.data.toList.drop 72 = dktX0_echo_3 := dk_seg dksX0_echo_2 24 rfl rfl
theorem dksX0_echo_4 : cX0_echo.data.toList.drop 96 = dktX0_echo_4 := dk_seg dksX0_echo_3 24 rfl rfl
theorem dX0_echo_0 : decode cX0_echo 0 = .ok (.aload_n 0, 1) := dk_42 (dk_at dksX0_echo_0 0 rfl rfl)
theorem dX0_echo_1 : decode cX0_echo 1 = .ok (.iload_n 1, 1) := dk_27 (dk_at dksX0_echo_0 1 rfl rfl)
theorem dX0_echo_2 : decode cX0_echo 2 = .ok (.invokevirtual 119, 3) := dk_182 0 119 (dk_at dksX0_echo_0 2 rfl rfl)
theorem dX0_echo_5 : decode cX0_echo 5 = .ok (.ifCond .ne 5, 3) := dk_154 0 5 (dk_at dksX0_echo_0 5 rfl rfl)
theorem dX0_echo_8 : decode cX0_echo 8 = .ok (.iconst (-1), 1) := dk_2 (dk_at dksX0_echo_0 8 rfl rfl)
theorem dX0_echo_9 : decode cX0_echo 9 = .ok (.ireturn, 1) := dk_172 (dk_at dksX0_echo_0 9 rfl rfl)
theorem dX0_echo_10 : decode cX0_echo 10 = .ok (.iload_n 2, 1) := dk_28 (dk_at dksX0_echo_0 10 rfl rfl)
theorem dX0_echo_11 : decode cX0_echo 11 = .ok (.tableswitch 95 0 5 #[37, 47, 57, 67, 76, 86], 37) := by decide +kernel
theorem dX0_echo_48 : decode cX0_echo 48 = .ok (.aload_n 0, 1) := dk_42 (dk_at dksX0_echo_2 0 rfl rfl)
theorem dX0_echo_49 : decode cX0_echo 49 = .ok (.getfield 33, 3) := dk_180 0 33 (dk_at dksX0_echo_2 1 rfl rfl)
theorem dX0_echo_52 : decode cX0_echo 52 = .ok (.getfield 122, 3) := dk_180 0 122 (dk_at dksX0_echo_2 4 rfl rfl)
theorem dX0_echo_55 : decode cX0_echo 55 = .ok (.iload_n 1, 1) := dk_27 (dk_at dksX0_echo_2 7 rfl rfl)
theorem dX0_echo_56 : decode cX0_echo 56 = .ok (.iaload, 1) := dk_46 (dk_at dksX0_echo_2 8 rfl rfl)
theorem dX0_echo_57 : decode cX0_echo 57 = .ok (.ireturn, 1) := dk_172 (dk_at dksX0_echo_2 9 rfl rfl)
theorem dX0_echo_58 : decode cX0_echo 58 = .ok (.aload_n 0, 1) := dk_42 (dk_at dksX0_echo_2 10 rfl rfl)
theorem dX0_echo_59 : decode cX0_echo 59 = .ok (.getfield 33, 3) := dk_180 0 33 (dk_at dksX0_echo_2 11 rfl rfl)
theorem dX0_echo_62 : decode cX0_echo 62 = .ok (.getfield 125, 3) := dk_180 0 125 (dk_at dksX0_echo_2 14 rfl rfl)
theorem dX0_echo_65 : decode cX0_echo 65 = .ok (.iload_n 1, 1) := dk_27 (dk_at dksX0_echo_2 17 rfl rfl)
theorem dX0_echo_66 : decode cX0_echo 66 = .ok (.iaload, 1) := dk_46 (dk_at dksX0_echo_2 18 rfl rfl)
theorem dX0_echo_67 : decode cX0_echo 67 = .ok (.ireturn, 1) := dk_172 (dk_at dksX0_echo_2 19 rfl rfl)
theorem dX0_echo_68 : decode cX0_echo 68 = .ok (.aload_n 0, 1) := dk_42 (dk_at dksX0_echo_2 20 rfl rfl)
theorem dX0_echo_69 : decode cX0_echo 69 = .ok (.getfield 33, 3) := dk_180 0 33 (dk_at dksX0_echo_2 21 rfl rfl)
theorem dX0_echo_72 : decode cX0_echo 72 = .ok (.getfield 128, 3) := dk_180 0 128 (dk_at dksX0_echo_3 0 rfl rfl)
theorem dX0_echo_75 : decode cX0_echo 75 = .ok (.iload_n 1, 1) := dk_27 (dk_at dksX0_echo_3 3 rfl rfl)
theorem dX0_echo_76 : decode cX0_echo 76 = .ok (.iaload, 1) := dk_46 (dk_at dksX0_echo_3 4 rfl rfl)
theorem dX0_echo_77 : decode cX0_echo 77 = .ok (.ireturn, 1) := dk_172 (dk_at dksX0_echo_3 5 rfl rfl)
theorem dX0_echo_78 : decode cX0_echo 78 = .ok (.aload_n 0, 1) := dk_42 (dk_at dksX0_echo_3 6 rfl rfl)
theorem dX0_echo_79 : decode cX0_echo 79 = .ok (.getfield 33, 3) := dk_180 0 33 (dk_at dksX0_echo_3 7 rfl rfl)
theorem dX0_echo_82 : decode cX0_echo 82 = .ok (.iload_n 1, 1) := dk_27 (dk_at dksX0_echo_3 10 rfl rfl)
theorem dX0_echo_83 : decode cX0_echo 83 = .ok (.invokevirtual 131, 3) := dk_182 0 131 (dk_at dksX0_echo_3 11 rfl rfl)
theorem dX0_echo_86 : decode cX0_echo 86 = .ok (.ireturn, 1) := dk_172 (dk_at dksX0_echo_3 14 rfl rfl)
theorem dX0_echo_87 : decode cX0_echo 87 = .ok (.aload_n 0, 1) := dk_42 (dk_at dksX0_echo_3 15 rfl rfl)
theorem dX0_echo_88 : decode cX0_echo 88 = .ok (.getfield 33, 3) := dk_180 0 33 (dk_at dksX0_echo_3 16 rfl rfl)
theorem dX0_echo_91 : decode cX0_echo 91 = .ok (.getfield 134, 3) := dk_180 0 134 (dk_at dksX0_echo_3 19 rfl rfl)
theorem dX0_echo_94 : decode cX0_echo 94 = .ok (.iload_n 1, 1) := dk_27 (dk_at dksX0_echo_3 22 rfl rfl)
theorem dX0_echo_95 : decode cX0_echo 95 = .ok (.iaload, 1) := dk_46 (dk_at dksX0_echo_3 23 rfl rfl)
theorem dX0_echo_96 : decode cX0_echo 96 = .ok (.ireturn, 1) := dk_172 (dk_at dksX0_echo_4 0 rfl rfl)
theorem dX0_echo_97 : decode cX0_echo 97 = .ok (.aload_n 0, 1) := dk_42 (dk_at dksX0_echo_4 1 rfl rfl)
theorem dX0_echo_98 : decode cX0_echo 98 = .ok (.getfield 33, 3) := dk_180 0 33 (dk_at dksX0_echo_4 2 rfl rfl)
theorem dX0_echo_101 : decode cX0_echo 101 = .ok (.iload_n 1, 1) := dk_27 (dk_at dksX0_echo_4 5 rfl rfl)
theorem dX0_echo_102 : decode cX0_echo 102 = .ok (.invokevirtual 137, 3) := dk_182 0 137 (dk_at dksX0_echo_4 6 rfl rfl)
theorem dX0_echo_105 : decode cX0_echo 105 = .ok (.ireturn, 1) := dk_172 (dk_at dksX0_echo_4 9 rfl rfl)
theorem dX0_echo_106 : decode cX0_echo 106 = .ok (.iconst (-1), 1) := dk_2 (dk_at dksX0_echo_4 10 rfl rfl)
theorem dX0_echo_107 : decode cX0_echo 107 = .ok (.ireturn, 1) := dk_172 (dk_at dksX0_echo_4 11 rfl rfl)
abbrev cX0_isEcho : ByteArray := prog_1_method_8_code
def yX0_isEcho : MethodName := ⟨RX0, "isEcho", "(I)Z"⟩
def dkwX0_isEcho_0 : List UInt8 := [27, 133, 9, 42, 180, 0, 33, 180, 0, 86, 4, 100, 133, 184, 0, 3, 172]
abbrev dktX0_isEcho_0 : List UInt8 := dkwX0_isEcho_0 ++ []
theorem dksX0_isEcho_0 : cX0_isEcho.data.toList.drop 0 = dktX0_isEcho_0 := by decide +kernel
theorem dX0_isEcho_0 : decode cX0_isEcho 0 = .ok (.iload_n 1, 1) := dk_27 (dk_at dksX0_isEcho_0 0 rfl rfl)
theorem dX0_isEcho_1 : decode cX0_isEcho 1 = .ok (.i2l, 1) := dk_133 (dk_at dksX0_isEcho_0 1 rfl rfl)
theorem dX0_isEcho_2 : decode cX0_isEcho 2 = .ok (.lconst 0, 1) := dk_9 (dk_at dksX0_isEcho_0 2 rfl rfl)
theorem dX0_isEcho_3 : decode cX0_isEcho 3 = .ok (.aload_n 0, 1) := dk_42 (dk_at dksX0_isEcho_0 3 rfl rfl)
theorem dX0_isEcho_4 : decode cX0_isEcho 4 = .ok (.getfield 33, 3) := dk_180 0 33 (dk_at dksX0_isEcho_0 4 rfl rfl)
theorem dX0_isEcho_7 : decode cX0_isEcho 7 = .ok (.getfield 86, 3) := dk_180 0 86 (dk_at dksX0_isEcho_0 7 rfl rfl)
theorem dX0_isEcho_10 : decode cX0_isEcho 10 = .ok (.iconst 1, 1) := dk_4 (dk_at dksX0_isEcho_0 10 rfl rfl)
theorem dX0_isEcho_11 : decode cX0_isEcho 11 = .ok (.isub, 1) := dk_100 (dk_at dksX0_isEcho_0 11 rfl rfl)
theorem dX0_isEcho_12 : decode cX0_isEcho 12 = .ok (.i2l, 1) := dk_133 (dk_at dksX0_isEcho_0 12 rfl rfl)
theorem dX0_isEcho_13 : decode cX0_isEcho 13 = .ok (.invokestatic 3, 3) := dk_184 0 3 (dk_at dksX0_isEcho_0 13 rfl rfl)
theorem dX0_isEcho_16 : decode cX0_isEcho 16 = .ok (.ireturn, 1) := dk_172 (dk_at dksX0_isEcho_0 16 rfl rfl)
abbrev cX0_letter : ByteArray := prog_1_method_13_code
def yX0_letter : MethodName := ⟨RX0, "letter", "(II)I"⟩
def dkwX0_letter_1 : List UInt8 := [184, 0, 3, 153, 0, 17, 42, 180, 0, 33, 180, 0, 140, 27, 50, 28, 51, 167, 0, 4, 2, 172]
abbrev dktX0_letter_1 : List UInt8 := dkwX0_letter_1 ++ []
def dkwX0_letter_0 : List UInt8 := [42, 27, 182, 0, 119, 153, 0, 38, 28, 133, 9, 42, 180, 0, 33, 180, 0, 134, 27, 46, 4, 100, 133]
abbrev dktX0_letter_0 : List UInt8 := dkwX0_letter_0 ++ dktX0_letter_1
theorem dksX0_letter_0 : cX0_letter.data.toList.drop 0 = dktX0_letter_0 := by decide +kernel
theorem dksX0_letter_1 : cX0_letter.data.toList.drop 23 = dktX0_letter_1 := dk_seg dksX0_letter_0 23 rfl rfl
theorem dX0_letter_0 : decode cX0_letter 0 = .ok (.aload_n 0, 1) := dk_42 (dk_at dksX0_letter_0 0 rfl rfl)
theorem dX0_letter_1 : decode cX0_letter 1 = .ok (.iload_n 1, 1) := dk_27 (dk_at dksX0_letter_0 1 rfl rfl)
theorem dX0_letter_2 : decode cX0_letter 2 = .ok (.invokevirtual 119, 3) := dk_182 0 119 (dk_at dksX0_letter_0 2 rfl rfl)
theorem dX0_letter_5 : decode cX0_letter 5 = .ok (.ifCond .eq 38, 3) := dk_153 0 38 (dk_at dksX0_letter_0 5 rfl rfl)
theorem dX0_letter_8 : decode cX0_letter 8 = .ok (.iload_n 2, 1) := dk_28 (dk_at dksX0_letter_0 8 rfl rfl)
theorem dX0_letter_9 : decode cX0_letter 9 = .ok (.i2l, 1) := dk_133 (dk_at dksX0_letter_0 9 rfl rfl)
theorem dX0_letter_10 : decode cX0_letter 10 = .ok (.lconst 0, 1) := dk_9 (dk_at dksX0_letter_0 10 rfl rfl)
theorem dX0_letter_11 : decode cX0_letter 11 = .ok (.aload_n 0, 1) := dk_42 (dk_at dksX0_letter_0 11 rfl rfl)
theorem dX0_letter_12 : decode cX0_letter 12 = .ok (.getfield 33, 3) := dk_180 0 33 (dk_at dksX0_letter_0 12 rfl rfl)
theorem dX0_letter_15 : decode cX0_letter 15 = .ok (.getfield 134, 3) := dk_180 0 134 (dk_at dksX0_letter_0 15 rfl rfl)
theorem dX0_letter_18 : decode cX0_letter 18 = .ok (.iload_n 1, 1) := dk_27 (dk_at dksX0_letter_0 18 rfl rfl)
theorem dX0_letter_19 : decode cX0_letter 19 = .ok (.iaload, 1) := dk_46 (dk_at dksX0_letter_0 19 rfl rfl)
theorem dX0_letter_20 : decode cX0_letter 20 = .ok (.iconst 1, 1) := dk_4 (dk_at dksX0_letter_0 20 rfl rfl)
theorem dX0_letter_21 : decode cX0_letter 21 = .ok (.isub, 1) := dk_100 (dk_at dksX0_letter_0 21 rfl rfl)
theorem dX0_letter_22 : decode cX0_letter 22 = .ok (.i2l, 1) := dk_133 (dk_at dksX0_letter_0 22 rfl rfl)
theorem dX0_letter_23 : decode cX0_letter 23 = .ok (.invokestatic 3, 3) := dk_184 0 3 (dk_at dksX0_letter_1 0 rfl rfl)
theorem dX0_letter_26 : decode cX0_letter 26 = .ok (.ifCond .eq 17, 3) := dk_153 0 17 (dk_at dksX0_letter_1 3 rfl rfl)
theorem dX0_letter_29 : decode cX0_letter 29 = .ok (.aload_n 0, 1) := dk_42 (dk_at dksX0_letter_1 6 rfl rfl)
theorem dX0_letter_30 : decode cX0_letter 30 = .ok (.getfield 33, 3) := dk_180 0 33 (dk_at dksX0_letter_1 7 rfl rfl)
theorem dX0_letter_33 : decode cX0_letter 33 = .ok (.getfield 140, 3) := dk_180 0 140 (dk_at dksX0_letter_1 10 rfl rfl)
theorem dX0_letter_36 : decode cX0_letter 36 = .ok (.iload_n 1, 1) := dk_27 (dk_at dksX0_letter_1 13 rfl rfl)
theorem dX0_letter_37 : decode cX0_letter 37 = .ok (.aaload, 1) := dk_50 (dk_at dksX0_letter_1 14 rfl rfl)
theorem dX0_letter_38 : decode cX0_letter 38 = .ok (.iload_n 2, 1) := dk_28 (dk_at dksX0_letter_1 15 rfl rfl)
theorem dX0_letter_39 : decode cX0_letter 39 = .ok (.baload, 1) := dk_51 (dk_at dksX0_letter_1 16 rfl rfl)
theorem dX0_letter_40 : decode cX0_letter 40 = .ok (.goto 4, 3) := dk_167 0 4 (dk_at dksX0_letter_1 17 rfl rfl)
theorem dX0_letter_43 : decode cX0_letter 43 = .ok (.iconst (-1), 1) := dk_2 (dk_at dksX0_letter_1 20 rfl rfl)
theorem dX0_letter_44 : decode cX0_letter 44 = .ok (.ireturn, 1) := dk_172 (dk_at dksX0_letter_1 21 rfl rfl)
abbrev cX0_order : ByteArray := prog_1_method_14_code
def yX0_order : MethodName := ⟨RX0, "order", "(II)I"⟩
def dkwX0_order_4 : List UInt8 := [45, 180, 0, 158, 28, 16, 10, 100, 51, 167, 0, 4, 2, 172]
abbrev dktX0_order_4 : List UInt8 := dkwX0_order_4 ++ []
def dkwX0_order_3 : List UInt8 := [4, 126, 172, 28, 133, 20, 0, 156, 16, 10, 45, 180, 0, 154, 96, 4, 100, 133, 184, 0, 3, 153, 0, 15]
abbrev dktX0_order_3 : List UInt8 := dkwX0_order_3 ++ dktX0_order_4
def dkwX0_order_2 : List UInt8 := [45, 180, 0, 147, 172, 45, 180, 0, 151, 172, 45, 180, 0, 154, 172, 42, 180, 0, 33, 180, 0, 103, 27, 122]
abbrev dktX0_order_2 : List UInt8 := dkwX0_order_2 ++ dktX0_order_3
def dkwX0_order_1 : List UInt8 := [170, 0, 0, 0, 0, 57, 0, 0, 0, 0, 0, 0, 0, 3, 0, 0, 0, 30, 0, 0, 0, 35, 0, 0, 0, 40, 0, 0, 0, 45]
abbrev dktX0_order_1 : List UInt8 := dkwX0_order_1 ++ dktX0_order_2
def dkwX0_order_0 : List UInt8 := [42, 27, 182, 0, 144, 154, 0, 5, 2, 172, 42, 180, 0, 50, 27, 50, 78, 28]
abbrev dktX0_order_0 : List UInt8 := dkwX0_order_0 ++ dktX0_order_1
theorem dksX0_order_0 : cX0_order.data.toList.drop 0 = dktX0_order_0 := by decide +kernel
theorem dksX0_order_1 : cX0_order.data.toList.drop 18 = dktX0_order_1 := dk_seg dksX0_order_0 18 rfl rfl
theorem dksX0_order_2 : cX0_order.data.toList.drop 48 = dktX0_order_2 := dk_seg dksX0_order_1 30 rfl rfl
theorem dksX0_order_3 : cX0_order.data.toList.drop 72 = dktX0_order_3 := dk_seg dksX0_order_2 24 rfl rfl
theorem dksX0_order_4 : cX0_order.data.toList.drop 96 = dktX0_order_4 := dk_seg dksX0_order_3 24 rfl rfl
theorem dX0_order_0 : decode cX0_order 0 = .ok (.aload_n 0, 1) := dk_42 (dk_at dksX0_order_0 0 rfl rfl)
theorem dX0_order_1 : decode cX0_order 1 = .ok (.iload_n 1, 1) := dk_27 (dk_at dksX0_order_0 1 rfl rfl)
theorem dX0_order_2 : decode cX0_order 2 = .ok (.invokevirtual 144, 3) := dk_182 0 144 (dk_at dksX0_order_0 2 rfl rfl)
theorem dX0_order_5 : decode cX0_order 5 = .ok (.ifCond .ne 5, 3) := dk_154 0 5 (dk_at dksX0_order_0 5 rfl rfl)
theorem dX0_order_8 : decode cX0_order 8 = .ok (.iconst (-1), 1) := dk_2 (dk_at dksX0_order_0 8 rfl rfl)
theorem dX0_order_9 : decode cX0_order 9 = .ok (.ireturn, 1) := dk_172 (dk_at dksX0_order_0 9 rfl rfl)
theorem dX0_order_10 : decode cX0_order 10 = .ok (.aload_n 0, 1) := dk_42 (dk_at dksX0_order_0 10 rfl rfl)
theorem dX0_order_11 : decode cX0_order 11 = .ok (.getfield 50, 3) := dk_180 0 50 (dk_at dksX0_order_0 11 rfl rfl)
theorem dX0_order_14 : decode cX0_order 14 = .ok (.iload_n 1, 1) := dk_27 (dk_at dksX0_order_0 14 rfl rfl)
theorem dX0_order_15 : decode cX0_order 15 = .ok (.aaload, 1) := dk_50 (dk_at dksX0_order_0 15 rfl rfl)
theorem dX0_order_16 : decode cX0_order 16 = .ok (.astore_n 3, 1) := dk_78 (dk_at dksX0_order_0 16 rfl rfl)
theorem dX0_order_17 : decode cX0_order 17 = .ok (.iload_n 2, 1) := dk_28 (dk_at dksX0_order_0 17 rfl rfl)
theorem dX0_order_18 : decode cX0_order 18 = .ok (.tableswitch 57 0 3 #[30, 35, 40, 45], 30) := by decide +kernel
theorem dX0_order_48 : decode cX0_order 48 = .ok (.aload_n 3, 1) := dk_45 (dk_at dksX0_order_2 0 rfl rfl)
theorem dX0_order_49 : decode cX0_order 49 = .ok (.getfield 147, 3) := dk_180 0 147 (dk_at dksX0_order_2 1 rfl rfl)
theorem dX0_order_52 : decode cX0_order 52 = .ok (.ireturn, 1) := dk_172 (dk_at dksX0_order_2 4 rfl rfl)
theorem dX0_order_53 : decode cX0_order 53 = .ok (.aload_n 3, 1) := dk_45 (dk_at dksX0_order_2 5 rfl rfl)
theorem dX0_order_54 : decode cX0_order 54 = .ok (.getfield 151, 3) := dk_180 0 151 (dk_at dksX0_order_2 6 rfl rfl)
theorem dX0_order_57 : decode cX0_order 57 = .ok (.ireturn, 1) := dk_172 (dk_at dksX0_order_2 9 rfl rfl)
theorem dX0_order_58 : decode cX0_order 58 = .ok (.aload_n 3, 1) := dk_45 (dk_at dksX0_order_2 10 rfl rfl)
theorem dX0_order_59 : decode cX0_order 59 = .ok (.getfield 154, 3) := dk_180 0 154 (dk_at dksX0_order_2 11 rfl rfl)
theorem dX0_order_62 : decode cX0_order 62 = .ok (.ireturn, 1) := dk_172 (dk_at dksX0_order_2 14 rfl rfl)
theorem dX0_order_63 : decode cX0_order 63 = .ok (.aload_n 0, 1) := dk_42 (dk_at dksX0_order_2 15 rfl rfl)
theorem dX0_order_64 : decode cX0_order 64 = .ok (.getfield 33, 3) := dk_180 0 33 (dk_at dksX0_order_2 16 rfl rfl)
theorem dX0_order_67 : decode cX0_order 67 = .ok (.getfield 103, 3) := dk_180 0 103 (dk_at dksX0_order_2 19 rfl rfl)
theorem dX0_order_70 : decode cX0_order 70 = .ok (.iload_n 1, 1) := dk_27 (dk_at dksX0_order_2 22 rfl rfl)
theorem dX0_order_71 : decode cX0_order 71 = .ok (.ishr, 1) := dk_122 (dk_at dksX0_order_2 23 rfl rfl)
theorem dX0_order_72 : decode cX0_order 72 = .ok (.iconst 1, 1) := dk_4 (dk_at dksX0_order_3 0 rfl rfl)
theorem dX0_order_73 : decode cX0_order 73 = .ok (.iand, 1) := dk_126 (dk_at dksX0_order_3 1 rfl rfl)
theorem dX0_order_74 : decode cX0_order 74 = .ok (.ireturn, 1) := dk_172 (dk_at dksX0_order_3 2 rfl rfl)
theorem dX0_order_75 : decode cX0_order 75 = .ok (.iload_n 2, 1) := dk_28 (dk_at dksX0_order_3 3 rfl rfl)
theorem dX0_order_76 : decode cX0_order 76 = .ok (.i2l, 1) := dk_133 (dk_at dksX0_order_3 4 rfl rfl)
theorem dX0_order_77 : decode cX0_order 77 = .ok (.ldc2_w 156, 3) := dk_20 0 156 (dk_at dksX0_order_3 5 rfl rfl)
theorem dX0_order_80 : decode cX0_order 80 = .ok (.bipush 10, 2) := dk_16 10 (dk_at dksX0_order_3 8 rfl rfl)
theorem dX0_order_82 : decode cX0_order 82 = .ok (.aload_n 3, 1) := dk_45 (dk_at dksX0_order_3 10 rfl rfl)
theorem dX0_order_83 : decode cX0_order 83 = .ok (.getfield 154, 3) := dk_180 0 154 (dk_at dksX0_order_3 11 rfl rfl)
theorem dX0_order_86 : decode cX0_order 86 = .ok (.iadd, 1) := dk_96 (dk_at dksX0_order_3 14 rfl rfl)
theorem dX0_order_87 : decode cX0_order 87 = .ok (.iconst 1, 1) := dk_4 (dk_at dksX0_order_3 15 rfl rfl)
theorem dX0_order_88 : decode cX0_order 88 = .ok (.isub, 1) := dk_100 (dk_at dksX0_order_3 16 rfl rfl)
theorem dX0_order_89 : decode cX0_order 89 = .ok (.i2l, 1) := dk_133 (dk_at dksX0_order_3 17 rfl rfl)
theorem dX0_order_90 : decode cX0_order 90 = .ok (.invokestatic 3, 3) := dk_184 0 3 (dk_at dksX0_order_3 18 rfl rfl)
theorem dX0_order_93 : decode cX0_order 93 = .ok (.ifCond .eq 15, 3) := dk_153 0 15 (dk_at dksX0_order_3 21 rfl rfl)
theorem dX0_order_96 : decode cX0_order 96 = .ok (.aload_n 3, 1) := dk_45 (dk_at dksX0_order_4 0 rfl rfl)
theorem dX0_order_97 : decode cX0_order 97 = .ok (.getfield 158, 3) := dk_180 0 158 (dk_at dksX0_order_4 1 rfl rfl)
theorem dX0_order_100 : decode cX0_order 100 = .ok (.iload_n 2, 1) := dk_28 (dk_at dksX0_order_4 4 rfl rfl)
theorem dX0_order_101 : decode cX0_order 101 = .ok (.bipush 10, 2) := dk_16 10 (dk_at dksX0_order_4 5 rfl rfl)
theorem dX0_order_103 : decode cX0_order 103 = .ok (.isub, 1) := dk_100 (dk_at dksX0_order_4 7 rfl rfl)
theorem dX0_order_104 : decode cX0_order 104 = .ok (.baload, 1) := dk_51 (dk_at dksX0_order_4 8 rfl rfl)
theorem dX0_order_105 : decode cX0_order 105 = .ok (.goto 4, 3) := dk_167 0 4 (dk_at dksX0_order_4 9 rfl rfl)
theorem dX0_order_108 : decode cX0_order 108 = .ok (.iconst (-1), 1) := dk_2 (dk_at dksX0_order_4 12 rfl rfl)
theorem dX0_order_109 : decode cX0_order 109 = .ok (.ireturn, 1) := dk_172 (dk_at dksX0_order_4 13 rfl rfl)
abbrev cX0_isOrder : ByteArray := prog_1_method_9_code
def yX0_isOrder : MethodName := ⟨RX0, "isOrder", "(I)Z"⟩
def dkwX0_isOrder_0 : List UInt8 := [27, 133, 9, 42, 180, 0, 58, 4, 100, 133, 184, 0, 3, 172]
abbrev dktX0_isOrder_0 : List UInt8 := dkwX0_isOrder_0 ++ []
theorem dksX0_isOrder_0 : cX0_isOrder.data.toList.drop 0 = dktX0_isOrder_0 := by decide +kernel
theorem dX0_isOrder_0 : decode cX0_isOrder 0 = .ok (.iload_n 1, 1) := dk_27 (dk_at dksX0_isOrder_0 0 rfl rfl)
theorem dX0_isOrder_1 : decode cX0_isOrder 1 = .ok (.i2l, 1) := dk_133 (dk_at dksX0_isOrder_0 1 rfl rfl)
theorem dX0_isOrder_2 : decode cX0_isOrder 2 = .ok (.lconst 0, 1) := dk_9 (dk_at dksX0_isOrder_0 2 rfl rfl)
theorem dX0_isOrder_3 : decode cX0_isOrder 3 = .ok (.aload_n 0, 1) := dk_42 (dk_at dksX0_isOrder_0 3 rfl rfl)
theorem dX0_isOrder_4 : decode cX0_isOrder 4 = .ok (.getfield 58, 3) := dk_180 0 58 (dk_at dksX0_isOrder_0 4 rfl rfl)
theorem dX0_isOrder_7 : decode cX0_isOrder 7 = .ok (.iconst 1, 1) := dk_4 (dk_at dksX0_isOrder_0 7 rfl rfl)
theorem dX0_isOrder_8 : decode cX0_isOrder 8 = .ok (.isub, 1) := dk_100 (dk_at dksX0_isOrder_0 8 rfl rfl)
theorem dX0_isOrder_9 : decode cX0_isOrder 9 = .ok (.i2l, 1) := dk_133 (dk_at dksX0_isOrder_0 9 rfl rfl)
theorem dX0_isOrder_10 : decode cX0_isOrder 10 = .ok (.invokestatic 3, 3) := dk_184 0 3 (dk_at dksX0_isOrder_0 10 rfl rfl)
theorem dX0_isOrder_13 : decode cX0_isOrder 13 = .ok (.ireturn, 1) := dk_172 (dk_at dksX0_isOrder_0 13 rfl rfl)
abbrev cX0_drive : ByteArray := prog_1_method_17_code
def yX0_drive : MethodName := ⟨RX0, "drive", "(II)I"⟩
def dkwX0_drive_0 : List UInt8 := [42, 27, 28, 182, 0, 170, 172]
abbrev dktX0_drive_0 : List UInt8 := dkwX0_drive_0 ++ []
theorem dksX0_drive_0 : cX0_drive.data.toList.drop 0 = dktX0_drive_0 := by decide +kernel
theorem dX0_drive_0 : decode cX0_drive 0 = .ok (.aload_n 0, 1) := dk_42 (dk_at dksX0_drive_0 0 rfl rfl)
theorem dX0_drive_1 : decode cX0_drive 1 = .ok (.iload_n 1, 1) := dk_27 (dk_at dksX0_drive_0 1 rfl rfl)
theorem dX0_drive_2 : decode cX0_drive 2 = .ok (.iload_n 2, 1) := dk_28 (dk_at dksX0_drive_0 2 rfl rfl)
theorem dX0_drive_3 : decode cX0_drive 3 = .ok (.invokevirtual 170, 3) := dk_182 0 170 (dk_at dksX0_drive_0 3 rfl rfl)
theorem dX0_drive_6 : decode cX0_drive 6 = .ok (.ireturn, 1) := dk_172 (dk_at dksX0_drive_0 6 rfl rfl)
abbrev cX0_drives : ByteArray := prog_1_method_16_code
def yX0_drives : MethodName := ⟨RX0, "drives", "(II)I"⟩
def dkwX0_drives_3 : List UInt8 := [172]
abbrev dktX0_drives_3 : List UInt8 := dkwX0_drives_3 ++ []
def dkwX0_drives_2 : List UInt8 := [180, 0, 33, 28, 182, 0, 166, 154, 0, 6, 16, 253, 172, 42, 180, 0, 33, 180, 0, 128, 27, 28, 79, 29]
abbrev dktX0_drives_2 : List UInt8 := dkwX0_drives_2 ++ dktX0_drives_3
def dkwX0_drives_1 : List UInt8 := [180, 0, 128, 27, 46, 62, 29, 28, 159, 0, 9, 29, 16, 252, 160, 0, 6, 16, 254, 172, 42, 42]
abbrev dktX0_drives_1 : List UInt8 := dkwX0_drives_1 ++ dktX0_drives_2
def dkwX0_drives_0 : List UInt8 := [42, 27, 182, 0, 119, 153, 0, 11, 42, 28, 182, 0, 106, 154, 0, 5, 2, 172, 42, 180, 0, 33]
abbrev dktX0_drives_0 : List UInt8 := dkwX0_drives_0 ++ dktX0_drives_1
theorem dksX0_drives_0 : cX0_drives.data.toList.drop 0 = dktX0_drives_0 := by decide +kernel
theorem dksX0_drives_1 : cX0_drives.data.toList.drop 22 = dktX0_drives_1 := dk_seg dksX0_drives_0 22 rfl rfl
theorem dksX0_drives_2 : cX0_drives.data.toList.drop 44 = dktX0_drives_2 := dk_seg dksX0_drives_1 22 rfl rfl
theorem dksX0_drives_3 : cX0_drives.data.toList.drop 68 = dktX0_drives_3 := dk_seg dksX0_drives_2 24 rfl rfl
theorem dX0_drives_0 : decode cX0_drives 0 = .ok (.aload_n 0, 1) := dk_42 (dk_at dksX0_drives_0 0 rfl rfl)
theorem dX0_drives_1 : decode cX0_drives 1 = .ok (.iload_n 1, 1) := dk_27 (dk_at dksX0_drives_0 1 rfl rfl)
theorem dX0_drives_2 : decode cX0_drives 2 = .ok (.invokevirtual 119, 3) := dk_182 0 119 (dk_at dksX0_drives_0 2 rfl rfl)
theorem dX0_drives_5 : decode cX0_drives 5 = .ok (.ifCond .eq 11, 3) := dk_153 0 11 (dk_at dksX0_drives_0 5 rfl rfl)
theorem dX0_drives_8 : decode cX0_drives 8 = .ok (.aload_n 0, 1) := dk_42 (dk_at dksX0_drives_0 8 rfl rfl)
theorem dX0_drives_9 : decode cX0_drives 9 = .ok (.iload_n 2, 1) := dk_28 (dk_at dksX0_drives_0 9 rfl rfl)
theorem dX0_drives_10 : decode cX0_drives 10 = .ok (.invokevirtual 106, 3) := dk_182 0 106 (dk_at dksX0_drives_0 10 rfl rfl)
theorem dX0_drives_13 : decode cX0_drives 13 = .ok (.ifCond .ne 5, 3) := dk_154 0 5 (dk_at dksX0_drives_0 13 rfl rfl)
theorem dX0_drives_16 : decode cX0_drives 16 = .ok (.iconst (-1), 1) := dk_2 (dk_at dksX0_drives_0 16 rfl rfl)
theorem dX0_drives_17 : decode cX0_drives 17 = .ok (.ireturn, 1) := dk_172 (dk_at dksX0_drives_0 17 rfl rfl)
theorem dX0_drives_18 : decode cX0_drives 18 = .ok (.aload_n 0, 1) := dk_42 (dk_at dksX0_drives_0 18 rfl rfl)
theorem dX0_drives_19 : decode cX0_drives 19 = .ok (.getfield 33, 3) := dk_180 0 33 (dk_at dksX0_drives_0 19 rfl rfl)
theorem dX0_drives_22 : decode cX0_drives 22 = .ok (.getfield 128, 3) := dk_180 0 128 (dk_at dksX0_drives_1 0 rfl rfl)
theorem dX0_drives_25 : decode cX0_drives 25 = .ok (.iload_n 1, 1) := dk_27 (dk_at dksX0_drives_1 3 rfl rfl)
theorem dX0_drives_26 : decode cX0_drives 26 = .ok (.iaload, 1) := dk_46 (dk_at dksX0_drives_1 4 rfl rfl)
theorem dX0_drives_27 : decode cX0_drives 27 = .ok (.istore_n 3, 1) := dk_62 (dk_at dksX0_drives_1 5 rfl rfl)
theorem dX0_drives_28 : decode cX0_drives 28 = .ok (.iload_n 3, 1) := dk_29 (dk_at dksX0_drives_1 6 rfl rfl)
theorem dX0_drives_29 : decode cX0_drives 29 = .ok (.iload_n 2, 1) := dk_28 (dk_at dksX0_drives_1 7 rfl rfl)
theorem dX0_drives_30 : decode cX0_drives 30 = .ok (.if_icmp .eq 9, 3) := dk_159 0 9 (dk_at dksX0_drives_1 8 rfl rfl)
theorem dX0_drives_33 : decode cX0_drives 33 = .ok (.iload_n 3, 1) := dk_29 (dk_at dksX0_drives_1 11 rfl rfl)
theorem dX0_drives_34 : decode cX0_drives 34 = .ok (.bipush (-4), 2) := dk_16 252 (dk_at dksX0_drives_1 12 rfl rfl)
theorem dX0_drives_36 : decode cX0_drives 36 = .ok (.if_icmp .ne 6, 3) := dk_160 0 6 (dk_at dksX0_drives_1 14 rfl rfl)
theorem dX0_drives_39 : decode cX0_drives 39 = .ok (.bipush (-2), 2) := dk_16 254 (dk_at dksX0_drives_1 17 rfl rfl)
theorem dX0_drives_41 : decode cX0_drives 41 = .ok (.ireturn, 1) := dk_172 (dk_at dksX0_drives_1 19 rfl rfl)
theorem dX0_drives_42 : decode cX0_drives 42 = .ok (.aload_n 0, 1) := dk_42 (dk_at dksX0_drives_1 20 rfl rfl)
theorem dX0_drives_43 : decode cX0_drives 43 = .ok (.aload_n 0, 1) := dk_42 (dk_at dksX0_drives_1 21 rfl rfl)
theorem dX0_drives_44 : decode cX0_drives 44 = .ok (.getfield 33, 3) := dk_180 0 33 (dk_at dksX0_drives_2 0 rfl rfl)
theorem dX0_drives_47 : decode cX0_drives 47 = .ok (.iload_n 2, 1) := dk_28 (dk_at dksX0_drives_2 3 rfl rfl)
theorem dX0_drives_48 : decode cX0_drives 48 = .ok (.invokevirtual 166, 3) := dk_182 0 166 (dk_at dksX0_drives_2 4 rfl rfl)
theorem dX0_drives_51 : decode cX0_drives 51 = .ok (.ifCond .ne 6, 3) := dk_154 0 6 (dk_at dksX0_drives_2 7 rfl rfl)
theorem dX0_drives_54 : decode cX0_drives 54 = .ok (.bipush (-3), 2) := dk_16 253 (dk_at dksX0_drives_2 10 rfl rfl)
theorem dX0_drives_56 : decode cX0_drives 56 = .ok (.ireturn, 1) := dk_172 (dk_at dksX0_drives_2 12 rfl rfl)
theorem dX0_drives_57 : decode cX0_drives 57 = .ok (.aload_n 0, 1) := dk_42 (dk_at dksX0_drives_2 13 rfl rfl)
theorem dX0_drives_58 : decode cX0_drives 58 = .ok (.getfield 33, 3) := dk_180 0 33 (dk_at dksX0_drives_2 14 rfl rfl)
theorem dX0_drives_61 : decode cX0_drives 61 = .ok (.getfield 128, 3) := dk_180 0 128 (dk_at dksX0_drives_2 17 rfl rfl)
theorem dX0_drives_64 : decode cX0_drives 64 = .ok (.iload_n 1, 1) := dk_27 (dk_at dksX0_drives_2 20 rfl rfl)
theorem dX0_drives_65 : decode cX0_drives 65 = .ok (.iload_n 2, 1) := dk_28 (dk_at dksX0_drives_2 21 rfl rfl)
theorem dX0_drives_66 : decode cX0_drives 66 = .ok (.iastore, 1) := dk_79 (dk_at dksX0_drives_2 22 rfl rfl)
theorem dX0_drives_67 : decode cX0_drives 67 = .ok (.iload_n 3, 1) := dk_29 (dk_at dksX0_drives_2 23 rfl rfl)
theorem dX0_drives_68 : decode cX0_drives 68 = .ok (.ireturn, 1) := dk_172 (dk_at dksX0_drives_3 0 rfl rfl)
abbrev cX0_hasRoom : ByteArray := prog_1_method_15_code
def yX0_hasRoom : MethodName := ⟨RX0, "hasRoom", "(LEchoPens$Farm;I)Z"⟩
def dkwX0_hasRoom_0 : List UInt8 := [43, 28, 182, 0, 95, 184, 0, 161, 6, 162, 0, 7, 4, 167, 0, 4, 3, 172]
abbrev dktX0_hasRoom_0 : List UInt8 := dkwX0_hasRoom_0 ++ []
theorem dksX0_hasRoom_0 : cX0_hasRoom.data.toList.drop 0 = dktX0_hasRoom_0 := by decide +kernel
theorem dX0_hasRoom_0 : decode cX0_hasRoom 0 = .ok (.aload_n 1, 1) := dk_43 (dk_at dksX0_hasRoom_0 0 rfl rfl)
theorem dX0_hasRoom_1 : decode cX0_hasRoom 1 = .ok (.iload_n 2, 1) := dk_28 (dk_at dksX0_hasRoom_0 1 rfl rfl)
theorem dX0_hasRoom_2 : decode cX0_hasRoom 2 = .ok (.invokevirtual 95, 3) := dk_182 0 95 (dk_at dksX0_hasRoom_0 2 rfl rfl)
theorem dX0_hasRoom_5 : decode cX0_hasRoom 5 = .ok (.invokestatic 161, 3) := dk_184 0 161 (dk_at dksX0_hasRoom_0 5 rfl rfl)
theorem dX0_hasRoom_8 : decode cX0_hasRoom 8 = .ok (.iconst 3, 1) := dk_6 (dk_at dksX0_hasRoom_0 8 rfl rfl)
theorem dX0_hasRoom_9 : decode cX0_hasRoom 9 = .ok (.if_icmp .ge 7, 3) := dk_162 0 7 (dk_at dksX0_hasRoom_0 9 rfl rfl)
theorem dX0_hasRoom_12 : decode cX0_hasRoom 12 = .ok (.iconst 1, 1) := dk_4 (dk_at dksX0_hasRoom_0 12 rfl rfl)
theorem dX0_hasRoom_13 : decode cX0_hasRoom 13 = .ok (.goto 4, 3) := dk_167 0 4 (dk_at dksX0_hasRoom_0 13 rfl rfl)
theorem dX0_hasRoom_16 : decode cX0_hasRoom 16 = .ok (.iconst 0, 1) := dk_3 (dk_at dksX0_hasRoom_0 16 rfl rfl)
theorem dX0_hasRoom_17 : decode cX0_hasRoom 17 = .ok (.ireturn, 1) := dk_172 (dk_at dksX0_hasRoom_0 17 rfl rfl)
abbrev cX0_fence : ByteArray := prog_1_method_19_code
def yX0_fence : MethodName := ⟨RX0, "fence", "(III)I"⟩
def dkwX0_fence_3 : List UInt8 := [29, 184, 0, 183, 172]
abbrev dktX0_fence_3 : List UInt8 := dkwX0_fence_3 ++ []
def dkwX0_fence_2 : List UInt8 := [2, 172, 28, 154, 0, 13, 42, 180, 0, 33, 180, 0, 112, 167, 0, 10, 42, 180, 0, 33, 180, 0, 116, 27]
abbrev dktX0_fence_2 : List UInt8 := dkwX0_fence_2 ++ dktX0_fence_3
def dkwX0_fence_1 : List UInt8 := [28, 154, 0, 9, 20, 0, 174, 167, 0, 11, 18, 176, 182, 0, 178, 4, 100, 133, 184, 0, 3, 154, 0, 5]
abbrev dktX0_fence_1 : List UInt8 := dkwX0_fence_1 ++ dktX0_fence_2
def dkwX0_fence_0 : List UInt8 := [42, 27, 182, 0, 106, 153, 0, 43, 28, 133, 9, 10, 184, 0, 3, 153, 0, 33, 29, 133, 4, 28, 100, 133]
abbrev dktX0_fence_0 : List UInt8 := dkwX0_fence_0 ++ dktX0_fence_1
theorem dksX0_fence_0 : cX0_fence.data.toList.drop 0 = dktX0_fence_0 := by decide +kernel
theorem dksX0_fence_1 : cX0_fence.data.toList.drop 24 = dktX0_fence_1 := dk_seg dksX0_fence_0 24 rfl rfl
theorem dksX0_fence_2 : cX0_fence.data.toList.drop 48 = dktX0_fence_2 := dk_seg dksX0_fence_1 24 rfl rfl
theorem dksX0_fence_3 : cX0_fence.data.toList.drop 72 = dktX0_fence_3 := dk_seg dksX0_fence_2 24 rfl rfl
theorem dX0_fence_0 : decode cX0_fence 0 = .ok (.aload_n 0, 1) := dk_42 (dk_at dksX0_fence_0 0 rfl rfl)
theorem dX0_fence_1 : decode cX0_fence 1 = .ok (.iload_n 1, 1) := dk_27 (dk_at dksX0_fence_0 1 rfl rfl)
theorem dX0_fence_2 : decode cX0_fence 2 = .ok (.invokevirtual 106, 3) := dk_182 0 106 (dk_at dksX0_fence_0 2 rfl rfl)
theorem dX0_fence_5 : decode cX0_fence 5 = .ok (.ifCond .eq 43, 3) := dk_153 0 43 (dk_at dksX0_fence_0 5 rfl rfl)
theorem dX0_fence_8 : decode cX0_fence 8 = .ok (.iload_n 2, 1) := dk_28 (dk_at dksX0_fence_0 8 rfl rfl)
theorem dX0_fence_9 : decode cX0_fence 9 = .ok (.i2l, 1) := dk_133 (dk_at dksX0_fence_0 9 rfl rfl)
theorem dX0_fence_10 : decode cX0_fence 10 = .ok (.lconst 0, 1) := dk_9 (dk_at dksX0_fence_0 10 rfl rfl)
theorem dX0_fence_11 : decode cX0_fence 11 = .ok (.lconst 1, 1) := dk_10 (dk_at dksX0_fence_0 11 rfl rfl)
theorem dX0_fence_12 : decode cX0_fence 12 = .ok (.invokestatic 3, 3) := dk_184 0 3 (dk_at dksX0_fence_0 12 rfl rfl)
theorem dX0_fence_15 : decode cX0_fence 15 = .ok (.ifCond .eq 33, 3) := dk_153 0 33 (dk_at dksX0_fence_0 15 rfl rfl)
theorem dX0_fence_18 : decode cX0_fence 18 = .ok (.iload_n 3, 1) := dk_29 (dk_at dksX0_fence_0 18 rfl rfl)
theorem dX0_fence_19 : decode cX0_fence 19 = .ok (.i2l, 1) := dk_133 (dk_at dksX0_fence_0 19 rfl rfl)
theorem dX0_fence_20 : decode cX0_fence 20 = .ok (.iconst 1, 1) := dk_4 (dk_at dksX0_fence_0 20 rfl rfl)
theorem dX0_fence_21 : decode cX0_fence 21 = .ok (.iload_n 2, 1) := dk_28 (dk_at dksX0_fence_0 21 rfl rfl)
theorem dX0_fence_22 : decode cX0_fence 22 = .ok (.isub, 1) := dk_100 (dk_at dksX0_fence_0 22 rfl rfl)
theorem dX0_fence_23 : decode cX0_fence 23 = .ok (.i2l, 1) := dk_133 (dk_at dksX0_fence_0 23 rfl rfl)
theorem dX0_fence_24 : decode cX0_fence 24 = .ok (.iload_n 2, 1) := dk_28 (dk_at dksX0_fence_1 0 rfl rfl)
theorem dX0_fence_25 : decode cX0_fence 25 = .ok (.ifCond .ne 9, 3) := dk_154 0 9 (dk_at dksX0_fence_1 1 rfl rfl)
theorem dX0_fence_28 : decode cX0_fence 28 = .ok (.ldc2_w 174, 3) := dk_20 0 174 (dk_at dksX0_fence_1 4 rfl rfl)
theorem dX0_fence_31 : decode cX0_fence 31 = .ok (.goto 11, 3) := dk_167 0 11 (dk_at dksX0_fence_1 7 rfl rfl)
theorem dX0_fence_34 : decode cX0_fence 34 = .ok (.ldc 176, 2) := dk_18 176 (dk_at dksX0_fence_1 10 rfl rfl)
theorem dX0_fence_36 : decode cX0_fence 36 = .ok (.invokevirtual 178, 3) := dk_182 0 178 (dk_at dksX0_fence_1 12 rfl rfl)
theorem dX0_fence_39 : decode cX0_fence 39 = .ok (.iconst 1, 1) := dk_4 (dk_at dksX0_fence_1 15 rfl rfl)
theorem dX0_fence_40 : decode cX0_fence 40 = .ok (.isub, 1) := dk_100 (dk_at dksX0_fence_1 16 rfl rfl)
theorem dX0_fence_41 : decode cX0_fence 41 = .ok (.i2l, 1) := dk_133 (dk_at dksX0_fence_1 17 rfl rfl)
theorem dX0_fence_42 : decode cX0_fence 42 = .ok (.invokestatic 3, 3) := dk_184 0 3 (dk_at dksX0_fence_1 18 rfl rfl)
theorem dX0_fence_45 : decode cX0_fence 45 = .ok (.ifCond .ne 5, 3) := dk_154 0 5 (dk_at dksX0_fence_1 21 rfl rfl)
theorem dX0_fence_48 : decode cX0_fence 48 = .ok (.iconst (-1), 1) := dk_2 (dk_at dksX0_fence_2 0 rfl rfl)
theorem dX0_fence_49 : decode cX0_fence 49 = .ok (.ireturn, 1) := dk_172 (dk_at dksX0_fence_2 1 rfl rfl)
theorem dX0_fence_50 : decode cX0_fence 50 = .ok (.iload_n 2, 1) := dk_28 (dk_at dksX0_fence_2 2 rfl rfl)
theorem dX0_fence_51 : decode cX0_fence 51 = .ok (.ifCond .ne 13, 3) := dk_154 0 13 (dk_at dksX0_fence_2 3 rfl rfl)
theorem dX0_fence_54 : decode cX0_fence 54 = .ok (.aload_n 0, 1) := dk_42 (dk_at dksX0_fence_2 6 rfl rfl)
theorem dX0_fence_55 : decode cX0_fence 55 = .ok (.getfield 33, 3) := dk_180 0 33 (dk_at dksX0_fence_2 7 rfl rfl)
theorem dX0_fence_58 : decode cX0_fence 58 = .ok (.getfield 112, 3) := dk_180 0 112 (dk_at dksX0_fence_2 10 rfl rfl)
theorem dX0_fence_61 : decode cX0_fence 61 = .ok (.goto 10, 3) := dk_167 0 10 (dk_at dksX0_fence_2 13 rfl rfl)
theorem dX0_fence_64 : decode cX0_fence 64 = .ok (.aload_n 0, 1) := dk_42 (dk_at dksX0_fence_2 16 rfl rfl)
theorem dX0_fence_65 : decode cX0_fence 65 = .ok (.getfield 33, 3) := dk_180 0 33 (dk_at dksX0_fence_2 17 rfl rfl)
theorem dX0_fence_68 : decode cX0_fence 68 = .ok (.getfield 116, 3) := dk_180 0 116 (dk_at dksX0_fence_2 20 rfl rfl)
theorem dX0_fence_71 : decode cX0_fence 71 = .ok (.iload_n 1, 1) := dk_27 (dk_at dksX0_fence_2 23 rfl rfl)
theorem dX0_fence_72 : decode cX0_fence 72 = .ok (.iload_n 3, 1) := dk_29 (dk_at dksX0_fence_3 0 rfl rfl)
theorem dX0_fence_73 : decode cX0_fence 73 = .ok (.invokestatic 183, 3) := dk_184 0 183 (dk_at dksX0_fence_3 1 rfl rfl)
theorem dX0_fence_76 : decode cX0_fence 76 = .ok (.ireturn, 1) := dk_172 (dk_at dksX0_fence_3 4 rfl rfl)
abbrev cX0_sets : ByteArray := prog_1_method_18_code
def yX0_sets : MethodName := ⟨RX0, "sets", "([III)I"⟩
def dkwX0_sets_0 : List UInt8 := [42, 27, 46, 62, 42, 27, 28, 79, 29, 172]
abbrev dktX0_sets_0 : List UInt8 := dkwX0_sets_0 ++ []
theorem dksX0_sets_0 : cX0_sets.data.toList.drop 0 = dktX0_sets_0 := by decide +kernel
theorem dX0_sets_0 : decode cX0_sets 0 = .ok (.aload_n 0, 1) := dk_42 (dk_at dksX0_sets_0 0 rfl rfl)
theorem dX0_sets_1 : decode cX0_sets 1 = .ok (.iload_n 1, 1) := dk_27 (dk_at dksX0_sets_0 1 rfl rfl)
theorem dX0_sets_2 : decode cX0_sets 2 = .ok (.iaload, 1) := dk_46 (dk_at dksX0_sets_0 2 rfl rfl)
theorem dX0_sets_3 : decode cX0_sets 3 = .ok (.istore_n 3, 1) := dk_62 (dk_at dksX0_sets_0 3 rfl rfl)
theorem dX0_sets_4 : decode cX0_sets 4 = .ok (.aload_n 0, 1) := dk_42 (dk_at dksX0_sets_0 4 rfl rfl)
theorem dX0_sets_5 : decode cX0_sets 5 = .ok (.iload_n 1, 1) := dk_27 (dk_at dksX0_sets_0 5 rfl rfl)
theorem dX0_sets_6 : decode cX0_sets 6 = .ok (.iload_n 2, 1) := dk_28 (dk_at dksX0_sets_0 6 rfl rfl)
theorem dX0_sets_7 : decode cX0_sets 7 = .ok (.iastore, 1) := dk_79 (dk_at dksX0_sets_0 7 rfl rfl)
theorem dX0_sets_8 : decode cX0_sets 8 = .ok (.iload_n 3, 1) := dk_29 (dk_at dksX0_sets_0 8 rfl rfl)
theorem dX0_sets_9 : decode cX0_sets 9 = .ok (.ireturn, 1) := dk_172 (dk_at dksX0_sets_0 9 rfl rfl)
abbrev cX0_raise : ByteArray := prog_1_method_20_code
def yX0_raise : MethodName := ⟨RX0, "raise", "(III)I"⟩
def dkwX0_raise_2 : List UInt8 := [42, 180, 0, 33, 180, 0, 125, 167, 0, 10, 42, 180, 0, 33, 180, 0, 122, 27, 29, 184, 0, 183, 172]
abbrev dktX0_raise_2 : List UInt8 := dkwX0_raise_2 ++ []
def dkwX0_raise_1 : List UInt8 := [154, 0, 9, 20, 0, 187, 167, 0, 6, 20, 0, 189, 184, 0, 3, 154, 0, 5, 2, 172, 28, 154, 0, 13]
abbrev dktX0_raise_1 : List UInt8 := dkwX0_raise_1 ++ dktX0_raise_2
def dkwX0_raise_0 : List UInt8 := [42, 27, 182, 0, 119, 153, 0, 35, 28, 133, 9, 10, 184, 0, 3, 153, 0, 25, 29, 133, 9, 28]
abbrev dktX0_raise_0 : List UInt8 := dkwX0_raise_0 ++ dktX0_raise_1
theorem dksX0_raise_0 : cX0_raise.data.toList.drop 0 = dktX0_raise_0 := by decide +kernel
theorem dksX0_raise_1 : cX0_raise.data.toList.drop 22 = dktX0_raise_1 := dk_seg dksX0_raise_0 22 rfl rfl
theorem dksX0_raise_2 : cX0_raise.data.toList.drop 46 = dktX0_raise_2 := dk_seg dksX0_raise_1 24 rfl rfl
theorem dX0_raise_0 : decode cX0_raise 0 = .ok (.aload_n 0, 1) := dk_42 (dk_at dksX0_raise_0 0 rfl rfl)
theorem dX0_raise_1 : decode cX0_raise 1 = .ok (.iload_n 1, 1) := dk_27 (dk_at dksX0_raise_0 1 rfl rfl)
theorem dX0_raise_2 : decode cX0_raise 2 = .ok (.invokevirtual 119, 3) := dk_182 0 119 (dk_at dksX0_raise_0 2 rfl rfl)
theorem dX0_raise_5 : decode cX0_raise 5 = .ok (.ifCond .eq 35, 3) := dk_153 0 35 (dk_at dksX0_raise_0 5 rfl rfl)
theorem dX0_raise_8 : decode cX0_raise 8 = .ok (.iload_n 2, 1) := dk_28 (dk_at dksX0_raise_0 8 rfl rfl)
theorem dX0_raise_9 : decode cX0_raise 9 = .ok (.i2l, 1) := dk_133 (dk_at dksX0_raise_0 9 rfl rfl)
theorem dX0_raise_10 : decode cX0_raise 10 = .ok (.lconst 0, 1) := dk_9 (dk_at dksX0_raise_0 10 rfl rfl)
theorem dX0_raise_11 : decode cX0_raise 11 = .ok (.lconst 1, 1) := dk_10 (dk_at dksX0_raise_0 11 rfl rfl)
theorem dX0_raise_12 : decode cX0_raise 12 = .ok (.invokestatic 3, 3) := dk_184 0 3 (dk_at dksX0_raise_0 12 rfl rfl)
theorem dX0_raise_15 : decode cX0_raise 15 = .ok (.ifCond .eq 25, 3) := dk_153 0 25 (dk_at dksX0_raise_0 15 rfl rfl)
theorem dX0_raise_18 : decode cX0_raise 18 = .ok (.iload_n 3, 1) := dk_29 (dk_at dksX0_raise_0 18 rfl rfl)
theorem dX0_raise_19 : decode cX0_raise 19 = .ok (.i2l, 1) := dk_133 (dk_at dksX0_raise_0 19 rfl rfl)
theorem dX0_raise_20 : decode cX0_raise 20 = .ok (.lconst 0, 1) := dk_9 (dk_at dksX0_raise_0 20 rfl rfl)
theorem dX0_raise_21 : decode cX0_raise 21 = .ok (.iload_n 2, 1) := dk_28 (dk_at dksX0_raise_0 21 rfl rfl)
theorem dX0_raise_22 : decode cX0_raise 22 = .ok (.ifCond .ne 9, 3) := dk_154 0 9 (dk_at dksX0_raise_1 0 rfl rfl)
theorem dX0_raise_25 : decode cX0_raise 25 = .ok (.ldc2_w 187, 3) := dk_20 0 187 (dk_at dksX0_raise_1 3 rfl rfl)
theorem dX0_raise_28 : decode cX0_raise 28 = .ok (.goto 6, 3) := dk_167 0 6 (dk_at dksX0_raise_1 6 rfl rfl)
theorem dX0_raise_31 : decode cX0_raise 31 = .ok (.ldc2_w 189, 3) := dk_20 0 189 (dk_at dksX0_raise_1 9 rfl rfl)
theorem dX0_raise_34 : decode cX0_raise 34 = .ok (.invokestatic 3, 3) := dk_184 0 3 (dk_at dksX0_raise_1 12 rfl rfl)
theorem dX0_raise_37 : decode cX0_raise 37 = .ok (.ifCond .ne 5, 3) := dk_154 0 5 (dk_at dksX0_raise_1 15 rfl rfl)
theorem dX0_raise_40 : decode cX0_raise 40 = .ok (.iconst (-1), 1) := dk_2 (dk_at dksX0_raise_1 18 rfl rfl)
theorem dX0_raise_41 : decode cX0_raise 41 = .ok (.ireturn, 1) := dk_172 (dk_at dksX0_raise_1 19 rfl rfl)
theorem dX0_raise_42 : decode cX0_raise 42 = .ok (.iload_n 2, 1) := dk_28 (dk_at dksX0_raise_1 20 rfl rfl)
theorem dX0_raise_43 : decode cX0_raise 43 = .ok (.ifCond .ne 13, 3) := dk_154 0 13 (dk_at dksX0_raise_1 21 rfl rfl)
theorem dX0_raise_46 : decode cX0_raise 46 = .ok (.aload_n 0, 1) := dk_42 (dk_at dksX0_raise_2 0 rfl rfl)
theorem dX0_raise_47 : decode cX0_raise 47 = .ok (.getfield 33, 3) := dk_180 0 33 (dk_at dksX0_raise_2 1 rfl rfl)
theorem dX0_raise_50 : decode cX0_raise 50 = .ok (.getfield 125, 3) := dk_180 0 125 (dk_at dksX0_raise_2 4 rfl rfl)
theorem dX0_raise_53 : decode cX0_raise 53 = .ok (.goto 10, 3) := dk_167 0 10 (dk_at dksX0_raise_2 7 rfl rfl)
theorem dX0_raise_56 : decode cX0_raise 56 = .ok (.aload_n 0, 1) := dk_42 (dk_at dksX0_raise_2 10 rfl rfl)
theorem dX0_raise_57 : decode cX0_raise 57 = .ok (.getfield 33, 3) := dk_180 0 33 (dk_at dksX0_raise_2 11 rfl rfl)
theorem dX0_raise_60 : decode cX0_raise 60 = .ok (.getfield 122, 3) := dk_180 0 122 (dk_at dksX0_raise_2 14 rfl rfl)
theorem dX0_raise_63 : decode cX0_raise 63 = .ok (.iload_n 1, 1) := dk_27 (dk_at dksX0_raise_2 17 rfl rfl)
theorem dX0_raise_64 : decode cX0_raise 64 = .ok (.iload_n 3, 1) := dk_29 (dk_at dksX0_raise_2 18 rfl rfl)
theorem dX0_raise_65 : decode cX0_raise 65 = .ok (.invokestatic 183, 3) := dk_184 0 183 (dk_at dksX0_raise_2 19 rfl rfl)
theorem dX0_raise_68 : decode cX0_raise 68 = .ok (.ireturn, 1) := dk_172 (dk_at dksX0_raise_2 22 rfl rfl)
abbrev cX0_clip : ByteArray := prog_1_method_21_code
def yX0_clip : MethodName := ⟨RX0, "clip", "(I)I"⟩
def dkwX0_clip_2 : List UInt8 := [4, 100, 79, 42, 180, 0, 33, 180, 0, 134, 27, 46, 172]
abbrev dktX0_clip_2 : List UInt8 := dkwX0_clip_2 ++ []
def dkwX0_clip_1 : List UInt8 := [180, 0, 33, 180, 0, 134, 27, 46, 154, 0, 6, 16, 254, 172, 42, 180, 0, 33, 180, 0, 134, 27, 92, 46]
abbrev dktX0_clip_1 : List UInt8 := dkwX0_clip_1 ++ dktX0_clip_2
def dkwX0_clip_0 : List UInt8 := [42, 27, 182, 0, 119, 154, 0, 5, 2, 172, 42, 180, 0, 33, 27, 182, 0, 191, 154, 0, 15, 42]
abbrev dktX0_clip_0 : List UInt8 := dkwX0_clip_0 ++ dktX0_clip_1
theorem dksX0_clip_0 : cX0_clip.data.toList.drop 0 = dktX0_clip_0 := by decide +kernel
theorem dksX0_clip_1 : cX0_clip.data.toList.drop 22 = dktX0_clip_1 := dk_seg dksX0_clip_0 22 rfl rfl
theorem dksX0_clip_2 : cX0_clip.data.toList.drop 46 = dktX0_clip_2 := dk_seg dksX0_clip_1 24 rfl rfl
theorem dX0_clip_0 : decode cX0_clip 0 = .ok (.aload_n 0, 1) := dk_42 (dk_at dksX0_clip_0 0 rfl rfl)
theorem dX0_clip_1 : decode cX0_clip 1 = .ok (.iload_n 1, 1) := dk_27 (dk_at dksX0_clip_0 1 rfl rfl)
theorem dX0_clip_2 : decode cX0_clip 2 = .ok (.invokevirtual 119, 3) := dk_182 0 119 (dk_at dksX0_clip_0 2 rfl rfl)
theorem dX0_clip_5 : decode cX0_clip 5 = .ok (.ifCond .ne 5, 3) := dk_154 0 5 (dk_at dksX0_clip_0 5 rfl rfl)
theorem dX0_clip_8 : decode cX0_clip 8 = .ok (.iconst (-1), 1) := dk_2 (dk_at dksX0_clip_0 8 rfl rfl)
theorem dX0_clip_9 : decode cX0_clip 9 = .ok (.ireturn, 1) := dk_172 (dk_at dksX0_clip_0 9 rfl rfl)
theorem dX0_clip_10 : decode cX0_clip 10 = .ok (.aload_n 0, 1) := dk_42 (dk_at dksX0_clip_0 10 rfl rfl)
theorem dX0_clip_11 : decode cX0_clip 11 = .ok (.getfield 33, 3) := dk_180 0 33 (dk_at dksX0_clip_0 11 rfl rfl)
theorem dX0_clip_14 : decode cX0_clip 14 = .ok (.iload_n 1, 1) := dk_27 (dk_at dksX0_clip_0 14 rfl rfl)
theorem dX0_clip_15 : decode cX0_clip 15 = .ok (.invokevirtual 191, 3) := dk_182 0 191 (dk_at dksX0_clip_0 15 rfl rfl)
theorem dX0_clip_18 : decode cX0_clip 18 = .ok (.ifCond .ne 15, 3) := dk_154 0 15 (dk_at dksX0_clip_0 18 rfl rfl)
theorem dX0_clip_21 : decode cX0_clip 21 = .ok (.aload_n 0, 1) := dk_42 (dk_at dksX0_clip_0 21 rfl rfl)
theorem dX0_clip_22 : decode cX0_clip 22 = .ok (.getfield 33, 3) := dk_180 0 33 (dk_at dksX0_clip_1 0 rfl rfl)
theorem dX0_clip_25 : decode cX0_clip 25 = .ok (.getfield 134, 3) := dk_180 0 134 (dk_at dksX0_clip_1 3 rfl rfl)
theorem dX0_clip_28 : decode cX0_clip 28 = .ok (.iload_n 1, 1) := dk_27 (dk_at dksX0_clip_1 6 rfl rfl)
theorem dX0_clip_29 : decode cX0_clip 29 = .ok (.iaload, 1) := dk_46 (dk_at dksX0_clip_1 7 rfl rfl)
theorem dX0_clip_30 : decode cX0_clip 30 = .ok (.ifCond .ne 6, 3) := dk_154 0 6 (dk_at dksX0_clip_1 8 rfl rfl)
theorem dX0_clip_33 : decode cX0_clip 33 = .ok (.bipush (-2), 2) := dk_16 254 (dk_at dksX0_clip_1 11 rfl rfl)
theorem dX0_clip_35 : decode cX0_clip 35 = .ok (.ireturn, 1) := dk_172 (dk_at dksX0_clip_1 13 rfl rfl)
theorem dX0_clip_36 : decode cX0_clip 36 = .ok (.aload_n 0, 1) := dk_42 (dk_at dksX0_clip_1 14 rfl rfl)
theorem dX0_clip_37 : decode cX0_clip 37 = .ok (.getfield 33, 3) := dk_180 0 33 (dk_at dksX0_clip_1 15 rfl rfl)
theorem dX0_clip_40 : decode cX0_clip 40 = .ok (.getfield 134, 3) := dk_180 0 134 (dk_at dksX0_clip_1 18 rfl rfl)
theorem dX0_clip_43 : decode cX0_clip 43 = .ok (.iload_n 1, 1) := dk_27 (dk_at dksX0_clip_1 21 rfl rfl)
theorem dX0_clip_44 : decode cX0_clip 44 = .ok (.dup2, 1) := dk_92 (dk_at dksX0_clip_1 22 rfl rfl)
theorem dX0_clip_45 : decode cX0_clip 45 = .ok (.iaload, 1) := dk_46 (dk_at dksX0_clip_1 23 rfl rfl)
theorem dX0_clip_46 : decode cX0_clip 46 = .ok (.iconst 1, 1) := dk_4 (dk_at dksX0_clip_2 0 rfl rfl)
theorem dX0_clip_47 : decode cX0_clip 47 = .ok (.isub, 1) := dk_100 (dk_at dksX0_clip_2 1 rfl rfl)
theorem dX0_clip_48 : decode cX0_clip 48 = .ok (.iastore, 1) := dk_79 (dk_at dksX0_clip_2 2 rfl rfl)
theorem dX0_clip_49 : decode cX0_clip 49 = .ok (.aload_n 0, 1) := dk_42 (dk_at dksX0_clip_2 3 rfl rfl)
theorem dX0_clip_50 : decode cX0_clip 50 = .ok (.getfield 33, 3) := dk_180 0 33 (dk_at dksX0_clip_2 4 rfl rfl)
theorem dX0_clip_53 : decode cX0_clip 53 = .ok (.getfield 134, 3) := dk_180 0 134 (dk_at dksX0_clip_2 7 rfl rfl)
theorem dX0_clip_56 : decode cX0_clip 56 = .ok (.iload_n 1, 1) := dk_27 (dk_at dksX0_clip_2 10 rfl rfl)
theorem dX0_clip_57 : decode cX0_clip 57 = .ok (.iaload, 1) := dk_46 (dk_at dksX0_clip_2 11 rfl rfl)
theorem dX0_clip_58 : decode cX0_clip 58 = .ok (.ireturn, 1) := dk_172 (dk_at dksX0_clip_2 12 rfl rfl)
abbrev cX0_teach : ByteArray := prog_1_method_22_code
def yX0_teach : MethodName := ⟨RX0, "teach", "(II)I"⟩
def dkwX0_teach_4 : List UInt8 := [46, 172]
abbrev dktX0_teach_4 : List UInt8 := dkwX0_teach_4 ++ []
def dkwX0_teach_3 : List UInt8 := [28, 145, 84, 42, 180, 0, 33, 180, 0, 134, 27, 92, 46, 4, 96, 79, 42, 180, 0, 33, 180, 0, 134, 27]
abbrev dktX0_teach_3 : List UInt8 := dkwX0_teach_3 ++ dktX0_teach_4
def dkwX0_teach_2 : List UInt8 := [160, 0, 6, 16, 253, 172, 42, 180, 0, 33, 180, 0, 140, 27, 50, 42, 180, 0, 33, 180, 0, 134, 27, 46]
abbrev dktX0_teach_2 : List UInt8 := dkwX0_teach_2 ++ dktX0_teach_3
def dkwX0_teach_1 : List UInt8 := [42, 180, 0, 33, 27, 182, 0, 191, 153, 0, 6, 16, 254, 172, 42, 180, 0, 33, 180, 0, 134, 27, 46, 8]
abbrev dktX0_teach_1 : List UInt8 := dkwX0_teach_1 ++ dktX0_teach_2
def dkwX0_teach_0 : List UInt8 := [42, 27, 182, 0, 119, 153, 0, 17, 28, 133, 20, 0, 194, 20, 0, 196, 184, 0, 3, 154, 0, 5, 2, 172]
abbrev dktX0_teach_0 : List UInt8 := dkwX0_teach_0 ++ dktX0_teach_1
theorem dksX0_teach_0 : cX0_teach.data.toList.drop 0 = dktX0_teach_0 := by decide +kernel
theorem dksX0_teach_1 : cX0_teach.data.toList.drop 24 = dktX0_teach_1 := dk_seg dksX0_teach_0 24 rfl rfl
theorem dksX0_teach_2 : cX0_teach.data.toList.drop 48 = dktX0_teach_2 := dk_seg dksX0_teach_1 24 rfl rfl
theorem dksX0_teach_3 : cX0_teach.data.toList.drop 72 = dktX0_teach_3 := dk_seg dksX0_teach_2 24 rfl rfl
theorem dksX0_teach_4 : cX0_teach.data.toList.drop 96 = dktX0_teach_4 := dk_seg dksX0_teach_3 24 rfl rfl
theorem dX0_teach_0 : decode cX0_teach 0 = .ok (.aload_n 0, 1) := dk_42 (dk_at dksX0_teach_0 0 rfl rfl)
theorem dX0_teach_1 : decode cX0_teach 1 = .ok (.iload_n 1, 1) := dk_27 (dk_at dksX0_teach_0 1 rfl rfl)
theorem dX0_teach_2 : decode cX0_teach 2 = .ok (.invokevirtual 119, 3) := dk_182 0 119 (dk_at dksX0_teach_0 2 rfl rfl)
theorem dX0_teach_5 : decode cX0_teach 5 = .ok (.ifCond .eq 17, 3) := dk_153 0 17 (dk_at dksX0_teach_0 5 rfl rfl)
theorem dX0_teach_8 : decode cX0_teach 8 = .ok (.iload_n 2, 1) := dk_28 (dk_at dksX0_teach_0 8 rfl rfl)
theorem dX0_teach_9 : decode cX0_teach 9 = .ok (.i2l, 1) := dk_133 (dk_at dksX0_teach_0 9 rfl rfl)
theorem dX0_teach_10 : decode cX0_teach 10 = .ok (.ldc2_w 194, 3) := dk_20 0 194 (dk_at dksX0_teach_0 10 rfl rfl)
theorem dX0_teach_13 : decode cX0_teach 13 = .ok (.ldc2_w 196, 3) := dk_20 0 196 (dk_at dksX0_teach_0 13 rfl rfl)
theorem dX0_teach_16 : decode cX0_teach 16 = .ok (.invokestatic 3, 3) := dk_184 0 3 (dk_at dksX0_teach_0 16 rfl rfl)
theorem dX0_teach_19 : decode cX0_teach 19 = .ok (.ifCond .ne 5, 3) := dk_154 0 5 (dk_at dksX0_teach_0 19 rfl rfl)
theorem dX0_teach_22 : decode cX0_teach 22 = .ok (.iconst (-1), 1) := dk_2 (dk_at dksX0_teach_0 22 rfl rfl)
theorem dX0_teach_23 : decode cX0_teach 23 = .ok (.ireturn, 1) := dk_172 (dk_at dksX0_teach_0 23 rfl rfl)
theorem dX0_teach_24 : decode cX0_teach 24 = .ok (.aload_n 0, 1) := dk_42 (dk_at dksX0_teach_1 0 rfl rfl)
theorem dX0_teach_25 : decode cX0_teach 25 = .ok (.getfield 33, 3) := dk_180 0 33 (dk_at dksX0_teach_1 1 rfl rfl)
theorem dX0_teach_28 : decode cX0_teach 28 = .ok (.iload_n 1, 1) := dk_27 (dk_at dksX0_teach_1 4 rfl rfl)
theorem dX0_teach_29 : decode cX0_teach 29 = .ok (.invokevirtual 191, 3) := dk_182 0 191 (dk_at dksX0_teach_1 5 rfl rfl)
theorem dX0_teach_32 : decode cX0_teach 32 = .ok (.ifCond .eq 6, 3) := dk_153 0 6 (dk_at dksX0_teach_1 8 rfl rfl)
theorem dX0_teach_35 : decode cX0_teach 35 = .ok (.bipush (-2), 2) := dk_16 254 (dk_at dksX0_teach_1 11 rfl rfl)
theorem dX0_teach_37 : decode cX0_teach 37 = .ok (.ireturn, 1) := dk_172 (dk_at dksX0_teach_1 13 rfl rfl)
theorem dX0_teach_38 : decode cX0_teach 38 = .ok (.aload_n 0, 1) := dk_42 (dk_at dksX0_teach_1 14 rfl rfl)
theorem dX0_teach_39 : decode cX0_teach 39 = .ok (.getfield 33, 3) := dk_180 0 33 (dk_at dksX0_teach_1 15 rfl rfl)
theorem dX0_teach_42 : decode cX0_teach 42 = .ok (.getfield 134, 3) := dk_180 0 134 (dk_at dksX0_teach_1 18 rfl rfl)
theorem dX0_teach_45 : decode cX0_teach 45 = .ok (.iload_n 1, 1) := dk_27 (dk_at dksX0_teach_1 21 rfl rfl)
theorem dX0_teach_46 : decode cX0_teach 46 = .ok (.iaload, 1) := dk_46 (dk_at dksX0_teach_1 22 rfl rfl)
theorem dX0_teach_47 : decode cX0_teach 47 = .ok (.iconst 5, 1) := dk_8 (dk_at dksX0_teach_1 23 rfl rfl)
theorem dX0_teach_48 : decode cX0_teach 48 = .ok (.if_icmp .ne 6, 3) := dk_160 0 6 (dk_at dksX0_teach_2 0 rfl rfl)
theorem dX0_teach_51 : decode cX0_teach 51 = .ok (.bipush (-3), 2) := dk_16 253 (dk_at dksX0_teach_2 3 rfl rfl)
theorem dX0_teach_53 : decode cX0_teach 53 = .ok (.ireturn, 1) := dk_172 (dk_at dksX0_teach_2 5 rfl rfl)
theorem dX0_teach_54 : decode cX0_teach 54 = .ok (.aload_n 0, 1) := dk_42 (dk_at dksX0_teach_2 6 rfl rfl)
theorem dX0_teach_55 : decode cX0_teach 55 = .ok (.getfield 33, 3) := dk_180 0 33 (dk_at dksX0_teach_2 7 rfl rfl)
theorem dX0_teach_58 : decode cX0_teach 58 = .ok (.getfield 140, 3) := dk_180 0 140 (dk_at dksX0_teach_2 10 rfl rfl)
theorem dX0_teach_61 : decode cX0_teach 61 = .ok (.iload_n 1, 1) := dk_27 (dk_at dksX0_teach_2 13 rfl rfl)
theorem dX0_teach_62 : decode cX0_teach 62 = .ok (.aaload, 1) := dk_50 (dk_at dksX0_teach_2 14 rfl rfl)
theorem dX0_teach_63 : decode cX0_teach 63 = .ok (.aload_n 0, 1) := dk_42 (dk_at dksX0_teach_2 15 rfl rfl)
theorem dX0_teach_64 : decode cX0_teach 64 = .ok (.getfield 33, 3) := dk_180 0 33 (dk_at dksX0_teach_2 16 rfl rfl)
theorem dX0_teach_67 : decode cX0_teach 67 = .ok (.getfield 134, 3) := dk_180 0 134 (dk_at dksX0_teach_2 19 rfl rfl)
theorem dX0_teach_70 : decode cX0_teach 70 = .ok (.iload_n 1, 1) := dk_27 (dk_at dksX0_teach_2 22 rfl rfl)
theorem dX0_teach_71 : decode cX0_teach 71 = .ok (.iaload, 1) := dk_46 (dk_at dksX0_teach_2 23 rfl rfl)
theorem dX0_teach_72 : decode cX0_teach 72 = .ok (.iload_n 2, 1) := dk_28 (dk_at dksX0_teach_3 0 rfl rfl)
theorem dX0_teach_73 : decode cX0_teach 73 = .ok (.i2b, 1) := dk_145 (dk_at dksX0_teach_3 1 rfl rfl)
theorem dX0_teach_74 : decode cX0_teach 74 = .ok (.bastore, 1) := dk_84 (dk_at dksX0_teach_3 2 rfl rfl)
theorem dX0_teach_75 : decode cX0_teach 75 = .ok (.aload_n 0, 1) := dk_42 (dk_at dksX0_teach_3 3 rfl rfl)
theorem dX0_teach_76 : decode cX0_teach 76 = .ok (.getfield 33, 3) := dk_180 0 33 (dk_at dksX0_teach_3 4 rfl rfl)
theorem dX0_teach_79 : decode cX0_teach 79 = .ok (.getfield 134, 3) := dk_180 0 134 (dk_at dksX0_teach_3 7 rfl rfl)
theorem dX0_teach_82 : decode cX0_teach 82 = .ok (.iload_n 1, 1) := dk_27 (dk_at dksX0_teach_3 10 rfl rfl)
theorem dX0_teach_83 : decode cX0_teach 83 = .ok (.dup2, 1) := dk_92 (dk_at dksX0_teach_3 11 rfl rfl)
theorem dX0_teach_84 : decode cX0_teach 84 = .ok (.iaload, 1) := dk_46 (dk_at dksX0_teach_3 12 rfl rfl)
theorem dX0_teach_85 : decode cX0_teach 85 = .ok (.iconst 1, 1) := dk_4 (dk_at dksX0_teach_3 13 rfl rfl)
theorem dX0_teach_86 : decode cX0_teach 86 = .ok (.iadd, 1) := dk_96 (dk_at dksX0_teach_3 14 rfl rfl)
theorem dX0_teach_87 : decode cX0_teach 87 = .ok (.iastore, 1) := dk_79 (dk_at dksX0_teach_3 15 rfl rfl)
theorem dX0_teach_88 : decode cX0_teach 88 = .ok (.aload_n 0, 1) := dk_42 (dk_at dksX0_teach_3 16 rfl rfl)
theorem dX0_teach_89 : decode cX0_teach 89 = .ok (.getfield 33, 3) := dk_180 0 33 (dk_at dksX0_teach_3 17 rfl rfl)
theorem dX0_teach_92 : decode cX0_teach 92 = .ok (.getfield 134, 3) := dk_180 0 134 (dk_at dksX0_teach_3 20 rfl rfl)
theorem dX0_teach_95 : decode cX0_teach 95 = .ok (.iload_n 1, 1) := dk_27 (dk_at dksX0_teach_3 23 rfl rfl)
theorem dX0_teach_96 : decode cX0_teach 96 = .ok (.iaload, 1) := dk_46 (dk_at dksX0_teach_4 0 rfl rfl)
theorem dX0_teach_97 : decode cX0_teach 97 = .ok (.ireturn, 1) := dk_172 (dk_at dksX0_teach_4 1 rfl rfl)
abbrev cX0_cross : ByteArray := prog_1_method_23_code
def yX0_cross : MethodName := ⟨RX0, "cross", "(II)I"⟩
def dkwX0_cross_5 : List UInt8 := [180, 0, 134, 28, 46, 184, 0, 183, 79, 42, 180, 0, 33, 180, 0, 134, 27, 46, 172]
abbrev dktX0_cross_5 : List UInt8 := dkwX0_cross_5 ++ []
def dkwX0_cross_4 : List UInt8 := [28, 45, 83, 42, 180, 0, 33, 180, 0, 134, 28, 42, 180, 0, 33, 180, 0, 134, 27, 42, 180, 0, 33]
abbrev dktX0_cross_4 : List UInt8 := dkwX0_cross_4 ++ dktX0_cross_5
def dkwX0_cross_3 : List UInt8 := [180, 0, 33, 180, 0, 140, 27, 42, 180, 0, 33, 180, 0, 140, 28, 50, 83, 42, 180, 0, 33, 180, 0, 140]
abbrev dktX0_cross_3 : List UInt8 := dkwX0_cross_3 ++ dktX0_cross_4
def dkwX0_cross_2 : List UInt8 := [180, 0, 128, 28, 46, 159, 0, 6, 16, 254, 172, 42, 180, 0, 33, 180, 0, 140, 27, 50, 78, 42]
abbrev dktX0_cross_2 : List UInt8 := dkwX0_cross_2 ++ dktX0_cross_3
def dkwX0_cross_1 : List UInt8 := [180, 0, 33, 27, 182, 0, 191, 154, 0, 24, 42, 180, 0, 33, 180, 0, 128, 27, 46, 42, 180, 0, 33]
abbrev dktX0_cross_1 : List UInt8 := dkwX0_cross_1 ++ dktX0_cross_2
def dkwX0_cross_0 : List UInt8 := [42, 27, 182, 0, 119, 153, 0, 16, 42, 28, 182, 0, 119, 153, 0, 8, 27, 28, 160, 0, 5, 2, 172, 42]
abbrev dktX0_cross_0 : List UInt8 := dkwX0_cross_0 ++ dktX0_cross_1
theorem dksX0_cross_0 : cX0_cross.data.toList.drop 0 = dktX0_cross_0 := by decide +kernel
theorem dksX0_cross_1 : cX0_cross.data.toList.drop 24 = dktX0_cross_1 := dk_seg dksX0_cross_0 24 rfl rfl
theorem dksX0_cross_2 : cX0_cross.data.toList.drop 47 = dktX0_cross_2 := dk_seg dksX0_cross_1 23 rfl rfl
theorem dksX0_cross_3 : cX0_cross.data.toList.drop 69 = dktX0_cross_3 := dk_seg dksX0_cross_2 22 rfl rfl
theorem dksX0_cross_4 : cX0_cross.data.toList.drop 93 = dktX0_cross_4 := dk_seg dksX0_cross_3 24 rfl rfl
theorem dksX0_cross_5 : cX0_cross.data.toList.drop 116 = dktX0_cross_5 := dk_seg dksX0_cross_4 23 rfl rfl
theorem dX0_cross_0 : decode cX0_cross 0 = .ok (.aload_n 0, 1) := dk_42 (dk_at dksX0_cross_0 0 rfl rfl)
theorem dX0_cross_1 : decode cX0_cross 1 = .ok (.iload_n 1, 1) := dk_27 (dk_at dksX0_cross_0 1 rfl rfl)
theorem dX0_cross_2 : decode cX0_cross 2 = .ok (.invokevirtual 119, 3) := dk_182 0 119 (dk_at dksX0_cross_0 2 rfl rfl)
theorem dX0_cross_5 : decode cX0_cross 5 = .ok (.ifCond .eq 16, 3) := dk_153 0 16 (dk_at dksX0_cross_0 5 rfl rfl)
theorem dX0_cross_8 : decode cX0_cross 8 = .ok (.aload_n 0, 1) := dk_42 (dk_at dksX0_cross_0 8 rfl rfl)
theorem dX0_cross_9 : decode cX0_cross 9 = .ok (.iload_n 2, 1) := dk_28 (dk_at dksX0_cross_0 9 rfl rfl)
theorem dX0_cross_10 : decode cX0_cross 10 = .ok (.invokevirtual 119, 3) := dk_182 0 119 (dk_at dksX0_cross_0 10 rfl rfl)
theorem dX0_cross_13 : decode cX0_cross 13 = .ok (.ifCond .eq 8, 3) := dk_153 0 8 (dk_at dksX0_cross_0 13 rfl rfl)
theorem dX0_cross_16 : decode cX0_cross 16 = .ok (.iload_n 1, 1) := dk_27 (dk_at dksX0_cross_0 16 rfl rfl)
theorem dX0_cross_17 : decode cX0_cross 17 = .ok (.iload_n 2, 1) := dk_28 (dk_at dksX0_cross_0 17 rfl rfl)
theorem dX0_cross_18 : decode cX0_cross 18 = .ok (.if_icmp .ne 5, 3) := dk_160 0 5 (dk_at dksX0_cross_0 18 rfl rfl)
theorem dX0_cross_21 : decode cX0_cross 21 = .ok (.iconst (-1), 1) := dk_2 (dk_at dksX0_cross_0 21 rfl rfl)
theorem dX0_cross_22 : decode cX0_cross 22 = .ok (.ireturn, 1) := dk_172 (dk_at dksX0_cross_0 22 rfl rfl)
theorem dX0_cross_23 : decode cX0_cross 23 = .ok (.aload_n 0, 1) := dk_42 (dk_at dksX0_cross_0 23 rfl rfl)
theorem dX0_cross_24 : decode cX0_cross 24 = .ok (.getfield 33, 3) := dk_180 0 33 (dk_at dksX0_cross_1 0 rfl rfl)
theorem dX0_cross_27 : decode cX0_cross 27 = .ok (.iload_n 1, 1) := dk_27 (dk_at dksX0_cross_1 3 rfl rfl)
theorem dX0_cross_28 : decode cX0_cross 28 = .ok (.invokevirtual 191, 3) := dk_182 0 191 (dk_at dksX0_cross_1 4 rfl rfl)
theorem dX0_cross_31 : decode cX0_cross 31 = .ok (.ifCond .ne 24, 3) := dk_154 0 24 (dk_at dksX0_cross_1 7 rfl rfl)
theorem dX0_cross_34 : decode cX0_cross 34 = .ok (.aload_n 0, 1) := dk_42 (dk_at dksX0_cross_1 10 rfl rfl)
theorem dX0_cross_35 : decode cX0_cross 35 = .ok (.getfield 33, 3) := dk_180 0 33 (dk_at dksX0_cross_1 11 rfl rfl)
theorem dX0_cross_38 : decode cX0_cross 38 = .ok (.getfield 128, 3) := dk_180 0 128 (dk_at dksX0_cross_1 14 rfl rfl)
theorem dX0_cross_41 : decode cX0_cross 41 = .ok (.iload_n 1, 1) := dk_27 (dk_at dksX0_cross_1 17 rfl rfl)
theorem dX0_cross_42 : decode cX0_cross 42 = .ok (.iaload, 1) := dk_46 (dk_at dksX0_cross_1 18 rfl rfl)
theorem dX0_cross_43 : decode cX0_cross 43 = .ok (.aload_n 0, 1) := dk_42 (dk_at dksX0_cross_1 19 rfl rfl)
theorem dX0_cross_44 : decode cX0_cross 44 = .ok (.getfield 33, 3) := dk_180 0 33 (dk_at dksX0_cross_1 20 rfl rfl)
theorem dX0_cross_47 : decode cX0_cross 47 = .ok (.getfield 128, 3) := dk_180 0 128 (dk_at dksX0_cross_2 0 rfl rfl)
theorem dX0_cross_50 : decode cX0_cross 50 = .ok (.iload_n 2, 1) := dk_28 (dk_at dksX0_cross_2 3 rfl rfl)
theorem dX0_cross_51 : decode cX0_cross 51 = .ok (.iaload, 1) := dk_46 (dk_at dksX0_cross_2 4 rfl rfl)
theorem dX0_cross_52 : decode cX0_cross 52 = .ok (.if_icmp .eq 6, 3) := dk_159 0 6 (dk_at dksX0_cross_2 5 rfl rfl)
theorem dX0_cross_55 : decode cX0_cross 55 = .ok (.bipush (-2), 2) := dk_16 254 (dk_at dksX0_cross_2 8 rfl rfl)
theorem dX0_cross_57 : decode cX0_cross 57 = .ok (.ireturn, 1) := dk_172 (dk_at dksX0_cross_2 10 rfl rfl)
theorem dX0_cross_58 : decode cX0_cross 58 = .ok (.aload_n 0, 1) := dk_42 (dk_at dksX0_cross_2 11 rfl rfl)
theorem dX0_cross_59 : decode cX0_cross 59 = .ok (.getfield 33, 3) := dk_180 0 33 (dk_at dksX0_cross_2 12 rfl rfl)
theorem dX0_cross_62 : decode cX0_cross 62 = .ok (.getfield 140, 3) := dk_180 0 140 (dk_at dksX0_cross_2 15 rfl rfl)
theorem dX0_cross_65 : decode cX0_cross 65 = .ok (.iload_n 1, 1) := dk_27 (dk_at dksX0_cross_2 18 rfl rfl)
theorem dX0_cross_66 : decode cX0_cross 66 = .ok (.aaload, 1) := dk_50 (dk_at dksX0_cross_2 19 rfl rfl)
theorem dX0_cross_67 : decode cX0_cross 67 = .ok (.astore_n 3, 1) := dk_78 (dk_at dksX0_cross_2 20 rfl rfl)
theorem dX0_cross_68 : decode cX0_cross 68 = .ok (.aload_n 0, 1) := dk_42 (dk_at dksX0_cross_2 21 rfl rfl)
theorem dX0_cross_69 : decode cX0_cross 69 = .ok (.getfield 33, 3) := dk_180 0 33 (dk_at dksX0_cross_3 0 rfl rfl)
theorem dX0_cross_72 : decode cX0_cross 72 = .ok (.getfield 140, 3) := dk_180 0 140 (dk_at dksX0_cross_3 3 rfl rfl)
theorem dX0_cross_75 : decode cX0_cross 75 = .ok (.iload_n 1, 1) := dk_27 (dk_at dksX0_cross_3 6 rfl rfl)
theorem dX0_cross_76 : decode cX0_cross 76 = .ok (.aload_n 0, 1) := dk_42 (dk_at dksX0_cross_3 7 rfl rfl)
theorem dX0_cross_77 : decode cX0_cross 77 = .ok (.getfield 33, 3) := dk_180 0 33 (dk_at dksX0_cross_3 8 rfl rfl)
theorem dX0_cross_80 : decode cX0_cross 80 = .ok (.getfield 140, 3) := dk_180 0 140 (dk_at dksX0_cross_3 11 rfl rfl)
theorem dX0_cross_83 : decode cX0_cross 83 = .ok (.iload_n 2, 1) := dk_28 (dk_at dksX0_cross_3 14 rfl rfl)
theorem dX0_cross_84 : decode cX0_cross 84 = .ok (.aaload, 1) := dk_50 (dk_at dksX0_cross_3 15 rfl rfl)
theorem dX0_cross_85 : decode cX0_cross 85 = .ok (.aastore, 1) := dk_83 (dk_at dksX0_cross_3 16 rfl rfl)
theorem dX0_cross_86 : decode cX0_cross 86 = .ok (.aload_n 0, 1) := dk_42 (dk_at dksX0_cross_3 17 rfl rfl)
theorem dX0_cross_87 : decode cX0_cross 87 = .ok (.getfield 33, 3) := dk_180 0 33 (dk_at dksX0_cross_3 18 rfl rfl)
theorem dX0_cross_90 : decode cX0_cross 90 = .ok (.getfield 140, 3) := dk_180 0 140 (dk_at dksX0_cross_3 21 rfl rfl)
theorem dX0_cross_93 : decode cX0_cross 93 = .ok (.iload_n 2, 1) := dk_28 (dk_at dksX0_cross_4 0 rfl rfl)
theorem dX0_cross_94 : decode cX0_cross 94 = .ok (.aload_n 3, 1) := dk_45 (dk_at dksX0_cross_4 1 rfl rfl)
theorem dX0_cross_95 : decode cX0_cross 95 = .ok (.aastore, 1) := dk_83 (dk_at dksX0_cross_4 2 rfl rfl)
theorem dX0_cross_96 : decode cX0_cross 96 = .ok (.aload_n 0, 1) := dk_42 (dk_at dksX0_cross_4 3 rfl rfl)
theorem dX0_cross_97 : decode cX0_cross 97 = .ok (.getfield 33, 3) := dk_180 0 33 (dk_at dksX0_cross_4 4 rfl rfl)
theorem dX0_cross_100 : decode cX0_cross 100 = .ok (.getfield 134, 3) := dk_180 0 134 (dk_at dksX0_cross_4 7 rfl rfl)
theorem dX0_cross_103 : decode cX0_cross 103 = .ok (.iload_n 2, 1) := dk_28 (dk_at dksX0_cross_4 10 rfl rfl)
theorem dX0_cross_104 : decode cX0_cross 104 = .ok (.aload_n 0, 1) := dk_42 (dk_at dksX0_cross_4 11 rfl rfl)
theorem dX0_cross_105 : decode cX0_cross 105 = .ok (.getfield 33, 3) := dk_180 0 33 (dk_at dksX0_cross_4 12 rfl rfl)
theorem dX0_cross_108 : decode cX0_cross 108 = .ok (.getfield 134, 3) := dk_180 0 134 (dk_at dksX0_cross_4 15 rfl rfl)
theorem dX0_cross_111 : decode cX0_cross 111 = .ok (.iload_n 1, 1) := dk_27 (dk_at dksX0_cross_4 18 rfl rfl)
theorem dX0_cross_112 : decode cX0_cross 112 = .ok (.aload_n 0, 1) := dk_42 (dk_at dksX0_cross_4 19 rfl rfl)
theorem dX0_cross_113 : decode cX0_cross 113 = .ok (.getfield 33, 3) := dk_180 0 33 (dk_at dksX0_cross_4 20 rfl rfl)
theorem dX0_cross_116 : decode cX0_cross 116 = .ok (.getfield 134, 3) := dk_180 0 134 (dk_at dksX0_cross_5 0 rfl rfl)
theorem dX0_cross_119 : decode cX0_cross 119 = .ok (.iload_n 2, 1) := dk_28 (dk_at dksX0_cross_5 3 rfl rfl)
theorem dX0_cross_120 : decode cX0_cross 120 = .ok (.iaload, 1) := dk_46 (dk_at dksX0_cross_5 4 rfl rfl)
theorem dX0_cross_121 : decode cX0_cross 121 = .ok (.invokestatic 183, 3) := dk_184 0 183 (dk_at dksX0_cross_5 5 rfl rfl)
theorem dX0_cross_124 : decode cX0_cross 124 = .ok (.iastore, 1) := dk_79 (dk_at dksX0_cross_5 8 rfl rfl)
theorem dX0_cross_125 : decode cX0_cross 125 = .ok (.aload_n 0, 1) := dk_42 (dk_at dksX0_cross_5 9 rfl rfl)
theorem dX0_cross_126 : decode cX0_cross 126 = .ok (.getfield 33, 3) := dk_180 0 33 (dk_at dksX0_cross_5 10 rfl rfl)
theorem dX0_cross_129 : decode cX0_cross 129 = .ok (.getfield 134, 3) := dk_180 0 134 (dk_at dksX0_cross_5 13 rfl rfl)
theorem dX0_cross_132 : decode cX0_cross 132 = .ok (.iload_n 1, 1) := dk_27 (dk_at dksX0_cross_5 16 rfl rfl)
theorem dX0_cross_133 : decode cX0_cross 133 = .ok (.iaload, 1) := dk_46 (dk_at dksX0_cross_5 17 rfl rfl)
theorem dX0_cross_134 : decode cX0_cross 134 = .ok (.ireturn, 1) := dk_172 (dk_at dksX0_cross_5 18 rfl rfl)
abbrev cX0_go : ByteArray := prog_1_method_25_code
def yX0_go : MethodName := ⟨RX0, "go", "(I)I"⟩
def dkwX0_go_2 : List UInt8 := [182, 0, 202, 42, 180, 0, 33, 182, 0, 99, 28, 2, 130, 126, 184, 0, 161, 172]
abbrev dktX0_go_2 : List UInt8 := dkwX0_go_2 ++ []
def dkwX0_go_1 : List UInt8 := [17, 3, 231, 164, 0, 6, 16, 253, 172, 42, 180, 0, 33, 182, 0, 99, 61, 42, 42, 180, 0, 33, 27]
abbrev dktX0_go_1 : List UInt8 := dkwX0_go_1 ++ dktX0_go_2
def dkwX0_go_0 : List UInt8 := [27, 133, 9, 20, 0, 200, 184, 0, 3, 154, 0, 5, 2, 172, 42, 180, 0, 33, 180, 0, 89, 27, 96]
abbrev dktX0_go_0 : List UInt8 := dkwX0_go_0 ++ dktX0_go_1
theorem dksX0_go_0 : cX0_go.data.toList.drop 0 = dktX0_go_0 := by decide +kernel
theorem dksX0_go_1 : cX0_go.data.toList.drop 23 = dktX0_go_1 := dk_seg dksX0_go_0 23 rfl rfl
theorem dksX0_go_2 : cX0_go.data.toList.drop 46 = dktX0_go_2 := dk_seg dksX0_go_1 23 rfl rfl
theorem dX0_go_0 : decode cX0_go 0 = .ok (.iload_n 1, 1) := dk_27 (dk_at dksX0_go_0 0 rfl rfl)
theorem dX0_go_1 : decode cX0_go 1 = .ok (.i2l, 1) := dk_133 (dk_at dksX0_go_0 1 rfl rfl)
theorem dX0_go_2 : decode cX0_go 2 = .ok (.lconst 0, 1) := dk_9 (dk_at dksX0_go_0 2 rfl rfl)
theorem dX0_go_3 : decode cX0_go 3 = .ok (.ldc2_w 200, 3) := dk_20 0 200 (dk_at dksX0_go_0 3 rfl rfl)
theorem dX0_go_6 : decode cX0_go 6 = .ok (.invokestatic 3, 3) := dk_184 0 3 (dk_at dksX0_go_0 6 rfl rfl)
theorem dX0_go_9 : decode cX0_go 9 = .ok (.ifCond .ne 5, 3) := dk_154 0 5 (dk_at dksX0_go_0 9 rfl rfl)
theorem dX0_go_12 : decode cX0_go 12 = .ok (.iconst (-1), 1) := dk_2 (dk_at dksX0_go_0 12 rfl rfl)
theorem dX0_go_13 : decode cX0_go 13 = .ok (.ireturn, 1) := dk_172 (dk_at dksX0_go_0 13 rfl rfl)
theorem dX0_go_14 : decode cX0_go 14 = .ok (.aload_n 0, 1) := dk_42 (dk_at dksX0_go_0 14 rfl rfl)
theorem dX0_go_15 : decode cX0_go 15 = .ok (.getfield 33, 3) := dk_180 0 33 (dk_at dksX0_go_0 15 rfl rfl)
theorem dX0_go_18 : decode cX0_go 18 = .ok (.getfield 89, 3) := dk_180 0 89 (dk_at dksX0_go_0 18 rfl rfl)
theorem dX0_go_21 : decode cX0_go 21 = .ok (.iload_n 1, 1) := dk_27 (dk_at dksX0_go_0 21 rfl rfl)
theorem dX0_go_22 : decode cX0_go 22 = .ok (.iadd, 1) := dk_96 (dk_at dksX0_go_0 22 rfl rfl)
theorem dX0_go_23 : decode cX0_go 23 = .ok (.sipush 999, 3) := dk_17 3 231 (dk_at dksX0_go_1 0 rfl rfl)
theorem dX0_go_26 : decode cX0_go 26 = .ok (.if_icmp .le 6, 3) := dk_164 0 6 (dk_at dksX0_go_1 3 rfl rfl)
theorem dX0_go_29 : decode cX0_go 29 = .ok (.bipush (-3), 2) := dk_16 253 (dk_at dksX0_go_1 6 rfl rfl)
theorem dX0_go_31 : decode cX0_go 31 = .ok (.ireturn, 1) := dk_172 (dk_at dksX0_go_1 8 rfl rfl)
theorem dX0_go_32 : decode cX0_go 32 = .ok (.aload_n 0, 1) := dk_42 (dk_at dksX0_go_1 9 rfl rfl)
theorem dX0_go_33 : decode cX0_go 33 = .ok (.getfield 33, 3) := dk_180 0 33 (dk_at dksX0_go_1 10 rfl rfl)
theorem dX0_go_36 : decode cX0_go 36 = .ok (.invokevirtual 99, 3) := dk_182 0 99 (dk_at dksX0_go_1 13 rfl rfl)
theorem dX0_go_39 : decode cX0_go 39 = .ok (.istore_n 2, 1) := dk_61 (dk_at dksX0_go_1 16 rfl rfl)
theorem dX0_go_40 : decode cX0_go 40 = .ok (.aload_n 0, 1) := dk_42 (dk_at dksX0_go_1 17 rfl rfl)
theorem dX0_go_41 : decode cX0_go 41 = .ok (.aload_n 0, 1) := dk_42 (dk_at dksX0_go_1 18 rfl rfl)
theorem dX0_go_42 : decode cX0_go 42 = .ok (.getfield 33, 3) := dk_180 0 33 (dk_at dksX0_go_1 19 rfl rfl)
theorem dX0_go_45 : decode cX0_go 45 = .ok (.iload_n 1, 1) := dk_27 (dk_at dksX0_go_1 22 rfl rfl)
theorem dX0_go_46 : decode cX0_go 46 = .ok (.invokevirtual 202, 3) := dk_182 0 202 (dk_at dksX0_go_2 0 rfl rfl)
theorem dX0_go_49 : decode cX0_go 49 = .ok (.aload_n 0, 1) := dk_42 (dk_at dksX0_go_2 3 rfl rfl)
theorem dX0_go_50 : decode cX0_go 50 = .ok (.getfield 33, 3) := dk_180 0 33 (dk_at dksX0_go_2 4 rfl rfl)
theorem dX0_go_53 : decode cX0_go 53 = .ok (.invokevirtual 99, 3) := dk_182 0 99 (dk_at dksX0_go_2 7 rfl rfl)
theorem dX0_go_56 : decode cX0_go 56 = .ok (.iload_n 2, 1) := dk_28 (dk_at dksX0_go_2 10 rfl rfl)
theorem dX0_go_57 : decode cX0_go 57 = .ok (.iconst (-1), 1) := dk_2 (dk_at dksX0_go_2 11 rfl rfl)
theorem dX0_go_58 : decode cX0_go 58 = .ok (.ixor, 1) := dk_130 (dk_at dksX0_go_2 12 rfl rfl)
theorem dX0_go_59 : decode cX0_go 59 = .ok (.iand, 1) := dk_126 (dk_at dksX0_go_2 13 rfl rfl)
theorem dX0_go_60 : decode cX0_go 60 = .ok (.invokestatic 161, 3) := dk_184 0 161 (dk_at dksX0_go_2 14 rfl rfl)
theorem dX0_go_63 : decode cX0_go 63 = .ok (.ireturn, 1) := dk_172 (dk_at dksX0_go_2 17 rfl rfl)
abbrev cX0_goes : ByteArray := prog_1_method_24_code
def yX0_goes : MethodName := ⟨RX0, "goes", "(LEchoPens$Farm;I)V"⟩
def dkwX0_goes_0 : List UInt8 := [3, 62, 29, 28, 162, 0, 13, 43, 182, 0, 198, 132, 3, 1, 167, 255, 244, 177]
abbrev dktX0_goes_0 : List UInt8 := dkwX0_goes_0 ++ []
theorem dksX0_goes_0 : cX0_goes.data.toList.drop 0 = dktX0_goes_0 := by decide +kernel
theorem dX0_goes_0 : decode cX0_goes 0 = .ok (.iconst 0, 1) := dk_3 (dk_at dksX0_goes_0 0 rfl rfl)
theorem dX0_goes_1 : decode cX0_goes 1 = .ok (.istore_n 3, 1) := dk_62 (dk_at dksX0_goes_0 1 rfl rfl)
theorem dX0_goes_2 : decode cX0_goes 2 = .ok (.iload_n 3, 1) := dk_29 (dk_at dksX0_goes_0 2 rfl rfl)
theorem dX0_goes_3 : decode cX0_goes 3 = .ok (.iload_n 2, 1) := dk_28 (dk_at dksX0_goes_0 3 rfl rfl)
theorem dX0_goes_4 : decode cX0_goes 4 = .ok (.if_icmp .ge 13, 3) := dk_162 0 13 (dk_at dksX0_goes_0 4 rfl rfl)
theorem dX0_goes_7 : decode cX0_goes 7 = .ok (.aload_n 1, 1) := dk_43 (dk_at dksX0_goes_0 7 rfl rfl)
theorem dX0_goes_8 : decode cX0_goes 8 = .ok (.invokevirtual 198, 3) := dk_182 0 198 (dk_at dksX0_goes_0 8 rfl rfl)
theorem dX0_goes_11 : decode cX0_goes 11 = .ok (.iinc 3 1, 3) := dk_132 3 1 (dk_at dksX0_goes_0 11 rfl rfl)
theorem dX0_goes_14 : decode cX0_goes 14 = .ok (.goto (-12), 3) := dk_167 255 244 (dk_at dksX0_goes_0 14 rfl rfl)
theorem dX0_goes_17 : decode cX0_goes 17 = .ok (.return_, 1) := dk_177 (dk_at dksX0_goes_0 17 rfl rfl)
abbrev cX0_ahead : ByteArray := prog_1_method_26_code
def yX0_ahead : MethodName := ⟨RX0, "ahead", "(III)I"⟩
def dkwX0_ahead_4 : List UInt8 := [172]
abbrev dktX0_ahead_4 : List UInt8 := dkwX0_ahead_4 ++ []
def dkwX0_ahead_3 : List UInt8 := [4, 160, 0, 15, 42, 180, 0, 206, 180, 0, 134, 27, 46, 167, 0, 11, 42, 180, 0, 206, 27, 182, 0, 131]
abbrev dktX0_ahead_3 : List UInt8 := dkwX0_ahead_3 ++ dktX0_ahead_4
def dkwX0_ahead_2 : List UInt8 := [180, 0, 206, 28, 182, 0, 202, 29, 154, 0, 15, 42, 180, 0, 206, 180, 0, 125, 27, 46, 167, 0, 28, 29]
abbrev dktX0_ahead_2 : List UInt8 := dkwX0_ahead_2 ++ dktX0_ahead_3
def dkwX0_ahead_1 : List UInt8 := [20, 0, 110, 184, 0, 3, 154, 0, 5, 2, 172, 42, 180, 0, 206, 42, 180, 0, 33, 182, 0, 40, 42, 42]
abbrev dktX0_ahead_1 : List UInt8 := dkwX0_ahead_1 ++ dktX0_ahead_2
def dkwX0_ahead_0 : List UInt8 := [42, 27, 182, 0, 119, 153, 0, 27, 28, 133, 9, 20, 0, 200, 184, 0, 3, 153, 0, 15, 29, 133, 9]
abbrev dktX0_ahead_0 : List UInt8 := dkwX0_ahead_0 ++ dktX0_ahead_1
theorem dksX0_ahead_0 : cX0_ahead.data.toList.drop 0 = dktX0_ahead_0 := by decide +kernel
theorem dksX0_ahead_1 : cX0_ahead.data.toList.drop 23 = dktX0_ahead_1 := dk_seg dksX0_ahead_0 23 rfl rfl
theorem dksX0_ahead_2 : cX0_ahead.data.toList.drop 47 = dktX0_ahead_2 := dk_seg dksX0_ahead_1 24 rfl rfl
theorem dksX0_ahead_3 : cX0_ahead.data.toList.drop 71 = dktX0_ahead_3 := dk_seg dksX0_ahead_2 24 rfl rfl
theorem dksX0_ahead_4 : cX0_ahead.data.toList.drop 95 = dktX0_ahead_4 := dk_seg dksX0_ahead_3 24 rfl rfl
theorem dX0_ahead_0 : decode cX0_ahead 0 = .ok (.aload_n 0, 1) := dk_42 (dk_at dksX0_ahead_0 0 rfl rfl)
theorem dX0_ahead_1 : decode cX0_ahead 1 = .ok (.iload_n 1, 1) := dk_27 (dk_at dksX0_ahead_0 1 rfl rfl)
theorem dX0_ahead_2 : decode cX0_ahead 2 = .ok (.invokevirtual 119, 3) := dk_182 0 119 (dk_at dksX0_ahead_0 2 rfl rfl)
theorem dX0_ahead_5 : decode cX0_ahead 5 = .ok (.ifCond .eq 27, 3) := dk_153 0 27 (dk_at dksX0_ahead_0 5 rfl rfl)
theorem dX0_ahead_8 : decode cX0_ahead 8 = .ok (.iload_n 2, 1) := dk_28 (dk_at dksX0_ahead_0 8 rfl rfl)
theorem dX0_ahead_9 : decode cX0_ahead 9 = .ok (.i2l, 1) := dk_133 (dk_at dksX0_ahead_0 9 rfl rfl)
theorem dX0_ahead_10 : decode cX0_ahead 10 = .ok (.lconst 0, 1) := dk_9 (dk_at dksX0_ahead_0 10 rfl rfl)
theorem dX0_ahead_11 : decode cX0_ahead 11 = .ok (.ldc2_w 200, 3) := dk_20 0 200 (dk_at dksX0_ahead_0 11 rfl rfl)
theorem dX0_ahead_14 : decode cX0_ahead 14 = .ok (.invokestatic 3, 3) := dk_184 0 3 (dk_at dksX0_ahead_0 14 rfl rfl)
theorem dX0_ahead_17 : decode cX0_ahead 17 = .ok (.ifCond .eq 15, 3) := dk_153 0 15 (dk_at dksX0_ahead_0 17 rfl rfl)
theorem dX0_ahead_20 : decode cX0_ahead 20 = .ok (.iload_n 3, 1) := dk_29 (dk_at dksX0_ahead_0 20 rfl rfl)
theorem dX0_ahead_21 : decode cX0_ahead 21 = .ok (.i2l, 1) := dk_133 (dk_at dksX0_ahead_0 21 rfl rfl)
theorem dX0_ahead_22 : decode cX0_ahead 22 = .ok (.lconst 0, 1) := dk_9 (dk_at dksX0_ahead_0 22 rfl rfl)
theorem dX0_ahead_23 : decode cX0_ahead 23 = .ok (.ldc2_w 110, 3) := dk_20 0 110 (dk_at dksX0_ahead_1 0 rfl rfl)
theorem dX0_ahead_26 : decode cX0_ahead 26 = .ok (.invokestatic 3, 3) := dk_184 0 3 (dk_at dksX0_ahead_1 3 rfl rfl)
theorem dX0_ahead_29 : decode cX0_ahead 29 = .ok (.ifCond .ne 5, 3) := dk_154 0 5 (dk_at dksX0_ahead_1 6 rfl rfl)
theorem dX0_ahead_32 : decode cX0_ahead 32 = .ok (.iconst (-1), 1) := dk_2 (dk_at dksX0_ahead_1 9 rfl rfl)
theorem dX0_ahead_33 : decode cX0_ahead 33 = .ok (.ireturn, 1) := dk_172 (dk_at dksX0_ahead_1 10 rfl rfl)
theorem dX0_ahead_34 : decode cX0_ahead 34 = .ok (.aload_n 0, 1) := dk_42 (dk_at dksX0_ahead_1 11 rfl rfl)
theorem dX0_ahead_35 : decode cX0_ahead 35 = .ok (.getfield 206, 3) := dk_180 0 206 (dk_at dksX0_ahead_1 12 rfl rfl)
theorem dX0_ahead_38 : decode cX0_ahead 38 = .ok (.aload_n 0, 1) := dk_42 (dk_at dksX0_ahead_1 15 rfl rfl)
theorem dX0_ahead_39 : decode cX0_ahead 39 = .ok (.getfield 33, 3) := dk_180 0 33 (dk_at dksX0_ahead_1 16 rfl rfl)
theorem dX0_ahead_42 : decode cX0_ahead 42 = .ok (.invokevirtual 40, 3) := dk_182 0 40 (dk_at dksX0_ahead_1 19 rfl rfl)
theorem dX0_ahead_45 : decode cX0_ahead 45 = .ok (.aload_n 0, 1) := dk_42 (dk_at dksX0_ahead_1 22 rfl rfl)
theorem dX0_ahead_46 : decode cX0_ahead 46 = .ok (.aload_n 0, 1) := dk_42 (dk_at dksX0_ahead_1 23 rfl rfl)
theorem dX0_ahead_47 : decode cX0_ahead 47 = .ok (.getfield 206, 3) := dk_180 0 206 (dk_at dksX0_ahead_2 0 rfl rfl)
theorem dX0_ahead_50 : decode cX0_ahead 50 = .ok (.iload_n 2, 1) := dk_28 (dk_at dksX0_ahead_2 3 rfl rfl)
theorem dX0_ahead_51 : decode cX0_ahead 51 = .ok (.invokevirtual 202, 3) := dk_182 0 202 (dk_at dksX0_ahead_2 4 rfl rfl)
theorem dX0_ahead_54 : decode cX0_ahead 54 = .ok (.iload_n 3, 1) := dk_29 (dk_at dksX0_ahead_2 7 rfl rfl)
theorem dX0_ahead_55 : decode cX0_ahead 55 = .ok (.ifCond .ne 15, 3) := dk_154 0 15 (dk_at dksX0_ahead_2 8 rfl rfl)
theorem dX0_ahead_58 : decode cX0_ahead 58 = .ok (.aload_n 0, 1) := dk_42 (dk_at dksX0_ahead_2 11 rfl rfl)
theorem dX0_ahead_59 : decode cX0_ahead 59 = .ok (.getfield 206, 3) := dk_180 0 206 (dk_at dksX0_ahead_2 12 rfl rfl)
theorem dX0_ahead_62 : decode cX0_ahead 62 = .ok (.getfield 125, 3) := dk_180 0 125 (dk_at dksX0_ahead_2 15 rfl rfl)
theorem dX0_ahead_65 : decode cX0_ahead 65 = .ok (.iload_n 1, 1) := dk_27 (dk_at dksX0_ahead_2 18 rfl rfl)
theorem dX0_ahead_66 : decode cX0_ahead 66 = .ok (.iaload, 1) := dk_46 (dk_at dksX0_ahead_2 19 rfl rfl)
theorem dX0_ahead_67 : decode cX0_ahead 67 = .ok (.goto 28, 3) := dk_167 0 28 (dk_at dksX0_ahead_2 20 rfl rfl)
theorem dX0_ahead_70 : decode cX0_ahead 70 = .ok (.iload_n 3, 1) := dk_29 (dk_at dksX0_ahead_2 23 rfl rfl)
theorem dX0_ahead_71 : decode cX0_ahead 71 = .ok (.iconst 1, 1) := dk_4 (dk_at dksX0_ahead_3 0 rfl rfl)
theorem dX0_ahead_72 : decode cX0_ahead 72 = .ok (.if_icmp .ne 15, 3) := dk_160 0 15 (dk_at dksX0_ahead_3 1 rfl rfl)
theorem dX0_ahead_75 : decode cX0_ahead 75 = .ok (.aload_n 0, 1) := dk_42 (dk_at dksX0_ahead_3 4 rfl rfl)
theorem dX0_ahead_76 : decode cX0_ahead 76 = .ok (.getfield 206, 3) := dk_180 0 206 (dk_at dksX0_ahead_3 5 rfl rfl)
theorem dX0_ahead_79 : decode cX0_ahead 79 = .ok (.getfield 134, 3) := dk_180 0 134 (dk_at dksX0_ahead_3 8 rfl rfl)
theorem dX0_ahead_82 : decode cX0_ahead 82 = .ok (.iload_n 1, 1) := dk_27 (dk_at dksX0_ahead_3 11 rfl rfl)
theorem dX0_ahead_83 : decode cX0_ahead 83 = .ok (.iaload, 1) := dk_46 (dk_at dksX0_ahead_3 12 rfl rfl)
theorem dX0_ahead_84 : decode cX0_ahead 84 = .ok (.goto 11, 3) := dk_167 0 11 (dk_at dksX0_ahead_3 13 rfl rfl)
theorem dX0_ahead_87 : decode cX0_ahead 87 = .ok (.aload_n 0, 1) := dk_42 (dk_at dksX0_ahead_3 16 rfl rfl)
theorem dX0_ahead_88 : decode cX0_ahead 88 = .ok (.getfield 206, 3) := dk_180 0 206 (dk_at dksX0_ahead_3 17 rfl rfl)
theorem dX0_ahead_91 : decode cX0_ahead 91 = .ok (.iload_n 1, 1) := dk_27 (dk_at dksX0_ahead_3 20 rfl rfl)
theorem dX0_ahead_92 : decode cX0_ahead 92 = .ok (.invokevirtual 131, 3) := dk_182 0 131 (dk_at dksX0_ahead_3 21 rfl rfl)
theorem dX0_ahead_95 : decode cX0_ahead 95 = .ok (.ireturn, 1) := dk_172 (dk_at dksX0_ahead_4 0 rfl rfl)
abbrev cX0_when : ByteArray := prog_1_method_29_code
def yX0_when : MethodName := ⟨RX0, "when", "(II)I"⟩
def dkwX0_when_2 : List UInt8 := [153, 0, 5, 29, 172, 42, 180, 0, 206, 182, 0, 198, 132, 3, 1, 167, 255, 225, 16, 252, 172]
abbrev dktX0_when_2 : List UInt8 := dkwX0_when_2 ++ []
def dkwX0_when_1 : List UInt8 := [180, 0, 33, 182, 0, 40, 3, 62, 29, 16, 30, 163, 0, 31, 42, 42, 180, 0, 206, 27, 28, 182, 0, 217]
abbrev dktX0_when_1 : List UInt8 := dkwX0_when_1 ++ dktX0_when_2
def dkwX0_when_0 : List UInt8 := [42, 27, 182, 0, 119, 153, 0, 11, 42, 28, 182, 0, 144, 154, 0, 5, 2, 172, 42, 180, 0, 206, 42]
abbrev dktX0_when_0 : List UInt8 := dkwX0_when_0 ++ dktX0_when_1
theorem dksX0_when_0 : cX0_when.data.toList.drop 0 = dktX0_when_0 := by decide +kernel
theorem dksX0_when_1 : cX0_when.data.toList.drop 23 = dktX0_when_1 := dk_seg dksX0_when_0 23 rfl rfl
theorem dksX0_when_2 : cX0_when.data.toList.drop 47 = dktX0_when_2 := dk_seg dksX0_when_1 24 rfl rfl
theorem dX0_when_0 : decode cX0_when 0 = .ok (.aload_n 0, 1) := dk_42 (dk_at dksX0_when_0 0 rfl rfl)
theorem dX0_when_1 : decode cX0_when 1 = .ok (.iload_n 1, 1) := dk_27 (dk_at dksX0_when_0 1 rfl rfl)
theorem dX0_when_2 : decode cX0_when 2 = .ok (.invokevirtual 119, 3) := dk_182 0 119 (dk_at dksX0_when_0 2 rfl rfl)
theorem dX0_when_5 : decode cX0_when 5 = .ok (.ifCond .eq 11, 3) := dk_153 0 11 (dk_at dksX0_when_0 5 rfl rfl)
theorem dX0_when_8 : decode cX0_when 8 = .ok (.aload_n 0, 1) := dk_42 (dk_at dksX0_when_0 8 rfl rfl)
theorem dX0_when_9 : decode cX0_when 9 = .ok (.iload_n 2, 1) := dk_28 (dk_at dksX0_when_0 9 rfl rfl)
theorem dX0_when_10 : decode cX0_when 10 = .ok (.invokevirtual 144, 3) := dk_182 0 144 (dk_at dksX0_when_0 10 rfl rfl)
theorem dX0_when_13 : decode cX0_when 13 = .ok (.ifCond .ne 5, 3) := dk_154 0 5 (dk_at dksX0_when_0 13 rfl rfl)
theorem dX0_when_16 : decode cX0_when 16 = .ok (.iconst (-1), 1) := dk_2 (dk_at dksX0_when_0 16 rfl rfl)
theorem dX0_when_17 : decode cX0_when 17 = .ok (.ireturn, 1) := dk_172 (dk_at dksX0_when_0 17 rfl rfl)
theorem dX0_when_18 : decode cX0_when 18 = .ok (.aload_n 0, 1) := dk_42 (dk_at dksX0_when_0 18 rfl rfl)
theorem dX0_when_19 : decode cX0_when 19 = .ok (.getfield 206, 3) := dk_180 0 206 (dk_at dksX0_when_0 19 rfl rfl)
theorem dX0_when_22 : decode cX0_when 22 = .ok (.aload_n 0, 1) := dk_42 (dk_at dksX0_when_0 22 rfl rfl)
theorem dX0_when_23 : decode cX0_when 23 = .ok (.getfield 33, 3) := dk_180 0 33 (dk_at dksX0_when_1 0 rfl rfl)
theorem dX0_when_26 : decode cX0_when 26 = .ok (.invokevirtual 40, 3) := dk_182 0 40 (dk_at dksX0_when_1 3 rfl rfl)
theorem dX0_when_29 : decode cX0_when 29 = .ok (.iconst 0, 1) := dk_3 (dk_at dksX0_when_1 6 rfl rfl)
theorem dX0_when_30 : decode cX0_when 30 = .ok (.istore_n 3, 1) := dk_62 (dk_at dksX0_when_1 7 rfl rfl)
theorem dX0_when_31 : decode cX0_when 31 = .ok (.iload_n 3, 1) := dk_29 (dk_at dksX0_when_1 8 rfl rfl)
theorem dX0_when_32 : decode cX0_when 32 = .ok (.bipush 30, 2) := dk_16 30 (dk_at dksX0_when_1 9 rfl rfl)
theorem dX0_when_34 : decode cX0_when 34 = .ok (.if_icmp .gt 31, 3) := dk_163 0 31 (dk_at dksX0_when_1 11 rfl rfl)
theorem dX0_when_37 : decode cX0_when 37 = .ok (.aload_n 0, 1) := dk_42 (dk_at dksX0_when_1 14 rfl rfl)
theorem dX0_when_38 : decode cX0_when 38 = .ok (.aload_n 0, 1) := dk_42 (dk_at dksX0_when_1 15 rfl rfl)
theorem dX0_when_39 : decode cX0_when 39 = .ok (.getfield 206, 3) := dk_180 0 206 (dk_at dksX0_when_1 16 rfl rfl)
theorem dX0_when_42 : decode cX0_when 42 = .ok (.iload_n 1, 1) := dk_27 (dk_at dksX0_when_1 19 rfl rfl)
theorem dX0_when_43 : decode cX0_when 43 = .ok (.iload_n 2, 1) := dk_28 (dk_at dksX0_when_1 20 rfl rfl)
theorem dX0_when_44 : decode cX0_when 44 = .ok (.invokevirtual 217, 3) := dk_182 0 217 (dk_at dksX0_when_1 21 rfl rfl)
theorem dX0_when_47 : decode cX0_when 47 = .ok (.ifCond .eq 5, 3) := dk_153 0 5 (dk_at dksX0_when_2 0 rfl rfl)
theorem dX0_when_50 : decode cX0_when 50 = .ok (.iload_n 3, 1) := dk_29 (dk_at dksX0_when_2 3 rfl rfl)
theorem dX0_when_51 : decode cX0_when 51 = .ok (.ireturn, 1) := dk_172 (dk_at dksX0_when_2 4 rfl rfl)
theorem dX0_when_52 : decode cX0_when 52 = .ok (.aload_n 0, 1) := dk_42 (dk_at dksX0_when_2 5 rfl rfl)
theorem dX0_when_53 : decode cX0_when 53 = .ok (.getfield 206, 3) := dk_180 0 206 (dk_at dksX0_when_2 6 rfl rfl)
theorem dX0_when_56 : decode cX0_when 56 = .ok (.invokevirtual 198, 3) := dk_182 0 198 (dk_at dksX0_when_2 9 rfl rfl)
theorem dX0_when_59 : decode cX0_when 59 = .ok (.iinc 3 1, 3) := dk_132 3 1 (dk_at dksX0_when_2 12 rfl rfl)
theorem dX0_when_62 : decode cX0_when 62 = .ok (.goto (-31), 3) := dk_167 255 225 (dk_at dksX0_when_2 15 rfl rfl)
theorem dX0_when_65 : decode cX0_when 65 = .ok (.bipush (-4), 2) := dk_16 252 (dk_at dksX0_when_2 18 rfl rfl)
theorem dX0_when_67 : decode cX0_when 67 = .ok (.ireturn, 1) := dk_172 (dk_at dksX0_when_2 20 rfl rfl)
abbrev cX0_doesMeet : ByteArray := prog_1_method_28_code
def yX0_doesMeet : MethodName := ⟨RX0, "doesMeet", "(LEchoPens$Farm;II)Z"⟩
def dkwX0_doesMeet_2 : List UInt8 := [167, 0, 4, 3, 172]
abbrev dktX0_doesMeet_2 : List UInt8 := dkwX0_doesMeet_2 ++ []
def dkwX0_doesMeet_1 : List UInt8 := [42, 180, 0, 50, 29, 50, 180, 0, 147, 161, 0, 17, 42, 43, 28, 29, 182, 0, 213, 153, 0, 7, 4]
abbrev dktX0_doesMeet_1 : List UInt8 := dkwX0_doesMeet_1 ++ dktX0_doesMeet_2
def dkwX0_doesMeet_0 : List UInt8 := [43, 180, 0, 103, 29, 184, 0, 209, 154, 0, 42, 43, 28, 182, 0, 191, 154, 0, 34, 43, 28, 182, 0, 131]
abbrev dktX0_doesMeet_0 : List UInt8 := dkwX0_doesMeet_0 ++ dktX0_doesMeet_1
theorem dksX0_doesMeet_0 : cX0_doesMeet.data.toList.drop 0 = dktX0_doesMeet_0 := by decide +kernel
theorem dksX0_doesMeet_1 : cX0_doesMeet.data.toList.drop 24 = dktX0_doesMeet_1 := dk_seg dksX0_doesMeet_0 24 rfl rfl
theorem dksX0_doesMeet_2 : cX0_doesMeet.data.toList.drop 47 = dktX0_doesMeet_2 := dk_seg dksX0_doesMeet_1 23 rfl rfl
theorem dX0_doesMeet_0 : decode cX0_doesMeet 0 = .ok (.aload_n 1, 1) := dk_43 (dk_at dksX0_doesMeet_0 0 rfl rfl)
theorem dX0_doesMeet_1 : decode cX0_doesMeet 1 = .ok (.getfield 103, 3) := dk_180 0 103 (dk_at dksX0_doesMeet_0 1 rfl rfl)
theorem dX0_doesMeet_4 : decode cX0_doesMeet 4 = .ok (.iload_n 3, 1) := dk_29 (dk_at dksX0_doesMeet_0 4 rfl rfl)
theorem dX0_doesMeet_5 : decode cX0_doesMeet 5 = .ok (.invokestatic 209, 3) := dk_184 0 209 (dk_at dksX0_doesMeet_0 5 rfl rfl)
theorem dX0_doesMeet_8 : decode cX0_doesMeet 8 = .ok (.ifCond .ne 42, 3) := dk_154 0 42 (dk_at dksX0_doesMeet_0 8 rfl rfl)
theorem dX0_doesMeet_11 : decode cX0_doesMeet 11 = .ok (.aload_n 1, 1) := dk_43 (dk_at dksX0_doesMeet_0 11 rfl rfl)
theorem dX0_doesMeet_12 : decode cX0_doesMeet 12 = .ok (.iload_n 2, 1) := dk_28 (dk_at dksX0_doesMeet_0 12 rfl rfl)
theorem dX0_doesMeet_13 : decode cX0_doesMeet 13 = .ok (.invokevirtual 191, 3) := dk_182 0 191 (dk_at dksX0_doesMeet_0 13 rfl rfl)
theorem dX0_doesMeet_16 : decode cX0_doesMeet 16 = .ok (.ifCond .ne 34, 3) := dk_154 0 34 (dk_at dksX0_doesMeet_0 16 rfl rfl)
theorem dX0_doesMeet_19 : decode cX0_doesMeet 19 = .ok (.aload_n 1, 1) := dk_43 (dk_at dksX0_doesMeet_0 19 rfl rfl)
theorem dX0_doesMeet_20 : decode cX0_doesMeet 20 = .ok (.iload_n 2, 1) := dk_28 (dk_at dksX0_doesMeet_0 20 rfl rfl)
theorem dX0_doesMeet_21 : decode cX0_doesMeet 21 = .ok (.invokevirtual 131, 3) := dk_182 0 131 (dk_at dksX0_doesMeet_0 21 rfl rfl)
theorem dX0_doesMeet_24 : decode cX0_doesMeet 24 = .ok (.aload_n 0, 1) := dk_42 (dk_at dksX0_doesMeet_1 0 rfl rfl)
theorem dX0_doesMeet_25 : decode cX0_doesMeet 25 = .ok (.getfield 50, 3) := dk_180 0 50 (dk_at dksX0_doesMeet_1 1 rfl rfl)
theorem dX0_doesMeet_28 : decode cX0_doesMeet 28 = .ok (.iload_n 3, 1) := dk_29 (dk_at dksX0_doesMeet_1 4 rfl rfl)
theorem dX0_doesMeet_29 : decode cX0_doesMeet 29 = .ok (.aaload, 1) := dk_50 (dk_at dksX0_doesMeet_1 5 rfl rfl)
theorem dX0_doesMeet_30 : decode cX0_doesMeet 30 = .ok (.getfield 147, 3) := dk_180 0 147 (dk_at dksX0_doesMeet_1 6 rfl rfl)
theorem dX0_doesMeet_33 : decode cX0_doesMeet 33 = .ok (.if_icmp .lt 17, 3) := dk_161 0 17 (dk_at dksX0_doesMeet_1 9 rfl rfl)
theorem dX0_doesMeet_36 : decode cX0_doesMeet 36 = .ok (.aload_n 0, 1) := dk_42 (dk_at dksX0_doesMeet_1 12 rfl rfl)
theorem dX0_doesMeet_37 : decode cX0_doesMeet 37 = .ok (.aload_n 1, 1) := dk_43 (dk_at dksX0_doesMeet_1 13 rfl rfl)
theorem dX0_doesMeet_38 : decode cX0_doesMeet 38 = .ok (.iload_n 2, 1) := dk_28 (dk_at dksX0_doesMeet_1 14 rfl rfl)
theorem dX0_doesMeet_39 : decode cX0_doesMeet 39 = .ok (.iload_n 3, 1) := dk_29 (dk_at dksX0_doesMeet_1 15 rfl rfl)
theorem dX0_doesMeet_40 : decode cX0_doesMeet 40 = .ok (.invokevirtual 213, 3) := dk_182 0 213 (dk_at dksX0_doesMeet_1 16 rfl rfl)
theorem dX0_doesMeet_43 : decode cX0_doesMeet 43 = .ok (.ifCond .eq 7, 3) := dk_153 0 7 (dk_at dksX0_doesMeet_1 19 rfl rfl)
theorem dX0_doesMeet_46 : decode cX0_doesMeet 46 = .ok (.iconst 1, 1) := dk_4 (dk_at dksX0_doesMeet_1 22 rfl rfl)
theorem dX0_doesMeet_47 : decode cX0_doesMeet 47 = .ok (.goto 4, 3) := dk_167 0 4 (dk_at dksX0_doesMeet_2 0 rfl rfl)
theorem dX0_doesMeet_50 : decode cX0_doesMeet 50 = .ok (.iconst 0, 1) := dk_3 (dk_at dksX0_doesMeet_2 3 rfl rfl)
theorem dX0_doesMeet_51 : decode cX0_doesMeet 51 = .ok (.ireturn, 1) := dk_172 (dk_at dksX0_doesMeet_2 4 rfl rfl)
abbrev cX0_endsSo : ByteArray := prog_1_method_27_code
def yX0_endsSo : MethodName := ⟨RX0, "endsSo", "(LEchoPens$Farm;II)Z"⟩
def dkwX0_endsSo_4 : List UInt8 := [172]
abbrev dktX0_endsSo_4 : List UInt8 := dkwX0_endsSo_4 ++ []
def dkwX0_endsSo_3 : List UInt8 := [180, 0, 158, 21, 6, 51, 160, 0, 7, 4, 167, 0, 4, 3, 54, 5, 132, 6, 1, 167, 255, 198, 21, 5]
abbrev dktX0_endsSo_3 : List UInt8 := dkwX0_endsSo_3 ++ dktX0_endsSo_4
def dkwX0_endsSo_2 : List UInt8 := [43, 180, 0, 140, 28, 50, 43, 180, 0, 134, 28, 46, 25, 4, 180, 0, 154, 100, 21, 6, 96, 51, 25, 4]
abbrev dktX0_endsSo_2 : List UInt8 := dkwX0_endsSo_2 ++ dktX0_endsSo_3
def dkwX0_endsSo_1 : List UInt8 := [167, 0, 4, 3, 54, 5, 3, 54, 6, 21, 6, 25, 4, 180, 0, 154, 162, 0, 54, 21, 5, 153, 0, 49]
abbrev dktX0_endsSo_1 : List UInt8 := dkwX0_endsSo_1 ++ dktX0_endsSo_2
def dkwX0_endsSo_0 : List UInt8 := [42, 180, 0, 50, 29, 50, 58, 4, 43, 180, 0, 134, 28, 46, 25, 4, 180, 0, 154, 161, 0, 7, 4]
abbrev dktX0_endsSo_0 : List UInt8 := dkwX0_endsSo_0 ++ dktX0_endsSo_1
theorem dksX0_endsSo_0 : cX0_endsSo.data.toList.drop 0 = dktX0_endsSo_0 := by decide +kernel
theorem dksX0_endsSo_1 : cX0_endsSo.data.toList.drop 23 = dktX0_endsSo_1 := dk_seg dksX0_endsSo_0 23 rfl rfl
theorem dksX0_endsSo_2 : cX0_endsSo.data.toList.drop 47 = dktX0_endsSo_2 := dk_seg dksX0_endsSo_1 24 rfl rfl
theorem dksX0_endsSo_3 : cX0_endsSo.data.toList.drop 71 = dktX0_endsSo_3 := dk_seg dksX0_endsSo_2 24 rfl rfl
theorem dksX0_endsSo_4 : cX0_endsSo.data.toList.drop 95 = dktX0_endsSo_4 := dk_seg dksX0_endsSo_3 24 rfl rfl
theorem dX0_endsSo_0 : decode cX0_endsSo 0 = .ok (.aload_n 0, 1) := dk_42 (dk_at dksX0_endsSo_0 0 rfl rfl)
theorem dX0_endsSo_1 : decode cX0_endsSo 1 = .ok (.getfield 50, 3) := dk_180 0 50 (dk_at dksX0_endsSo_0 1 rfl rfl)
theorem dX0_endsSo_4 : decode cX0_endsSo 4 = .ok (.iload_n 3, 1) := dk_29 (dk_at dksX0_endsSo_0 4 rfl rfl)
theorem dX0_endsSo_5 : decode cX0_endsSo 5 = .ok (.aaload, 1) := dk_50 (dk_at dksX0_endsSo_0 5 rfl rfl)
theorem dX0_endsSo_6 : decode cX0_endsSo 6 = .ok (.astore 4, 2) := dk_58 4 (dk_at dksX0_endsSo_0 6 rfl rfl)
theorem dX0_endsSo_8 : decode cX0_endsSo 8 = .ok (.aload_n 1, 1) := dk_43 (dk_at dksX0_endsSo_0 8 rfl rfl)
theorem dX0_endsSo_9 : decode cX0_endsSo 9 = .ok (.getfield 134, 3) := dk_180 0 134 (dk_at dksX0_endsSo_0 9 rfl rfl)
theorem dX0_endsSo_12 : decode cX0_endsSo 12 = .ok (.iload_n 2, 1) := dk_28 (dk_at dksX0_endsSo_0 12 rfl rfl)
theorem dX0_endsSo_13 : decode cX0_endsSo 13 = .ok (.iaload, 1) := dk_46 (dk_at dksX0_endsSo_0 13 rfl rfl)
theorem dX0_endsSo_14 : decode cX0_endsSo 14 = .ok (.aload 4, 2) := dk_25 4 (dk_at dksX0_endsSo_0 14 rfl rfl)
theorem dX0_endsSo_16 : decode cX0_endsSo 16 = .ok (.getfield 154, 3) := dk_180 0 154 (dk_at dksX0_endsSo_0 16 rfl rfl)
theorem dX0_endsSo_19 : decode cX0_endsSo 19 = .ok (.if_icmp .lt 7, 3) := dk_161 0 7 (dk_at dksX0_endsSo_0 19 rfl rfl)
theorem dX0_endsSo_22 : decode cX0_endsSo 22 = .ok (.iconst 1, 1) := dk_4 (dk_at dksX0_endsSo_0 22 rfl rfl)
theorem dX0_endsSo_23 : decode cX0_endsSo 23 = .ok (.goto 4, 3) := dk_167 0 4 (dk_at dksX0_endsSo_1 0 rfl rfl)
theorem dX0_endsSo_26 : decode cX0_endsSo 26 = .ok (.iconst 0, 1) := dk_3 (dk_at dksX0_endsSo_1 3 rfl rfl)
theorem dX0_endsSo_27 : decode cX0_endsSo 27 = .ok (.istore 5, 2) := dk_54 5 (dk_at dksX0_endsSo_1 4 rfl rfl)
theorem dX0_endsSo_29 : decode cX0_endsSo 29 = .ok (.iconst 0, 1) := dk_3 (dk_at dksX0_endsSo_1 6 rfl rfl)
theorem dX0_endsSo_30 : decode cX0_endsSo 30 = .ok (.istore 6, 2) := dk_54 6 (dk_at dksX0_endsSo_1 7 rfl rfl)
theorem dX0_endsSo_32 : decode cX0_endsSo 32 = .ok (.iload 6, 2) := dk_21 6 (dk_at dksX0_endsSo_1 9 rfl rfl)
theorem dX0_endsSo_34 : decode cX0_endsSo 34 = .ok (.aload 4, 2) := dk_25 4 (dk_at dksX0_endsSo_1 11 rfl rfl)
theorem dX0_endsSo_36 : decode cX0_endsSo 36 = .ok (.getfield 154, 3) := dk_180 0 154 (dk_at dksX0_endsSo_1 13 rfl rfl)
theorem dX0_endsSo_39 : decode cX0_endsSo 39 = .ok (.if_icmp .ge 54, 3) := dk_162 0 54 (dk_at dksX0_endsSo_1 16 rfl rfl)
theorem dX0_endsSo_42 : decode cX0_endsSo 42 = .ok (.iload 5, 2) := dk_21 5 (dk_at dksX0_endsSo_1 19 rfl rfl)
theorem dX0_endsSo_44 : decode cX0_endsSo 44 = .ok (.ifCond .eq 49, 3) := dk_153 0 49 (dk_at dksX0_endsSo_1 21 rfl rfl)
theorem dX0_endsSo_47 : decode cX0_endsSo 47 = .ok (.aload_n 1, 1) := dk_43 (dk_at dksX0_endsSo_2 0 rfl rfl)
theorem dX0_endsSo_48 : decode cX0_endsSo 48 = .ok (.getfield 140, 3) := dk_180 0 140 (dk_at dksX0_endsSo_2 1 rfl rfl)
theorem dX0_endsSo_51 : decode cX0_endsSo 51 = .ok (.iload_n 2, 1) := dk_28 (dk_at dksX0_endsSo_2 4 rfl rfl)
theorem dX0_endsSo_52 : decode cX0_endsSo 52 = .ok (.aaload, 1) := dk_50 (dk_at dksX0_endsSo_2 5 rfl rfl)
theorem dX0_endsSo_53 : decode cX0_endsSo 53 = .ok (.aload_n 1, 1) := dk_43 (dk_at dksX0_endsSo_2 6 rfl rfl)
theorem dX0_endsSo_54 : decode cX0_endsSo 54 = .ok (.getfield 134, 3) := dk_180 0 134 (dk_at dksX0_endsSo_2 7 rfl rfl)
theorem dX0_endsSo_57 : decode cX0_endsSo 57 = .ok (.iload_n 2, 1) := dk_28 (dk_at dksX0_endsSo_2 10 rfl rfl)
theorem dX0_endsSo_58 : decode cX0_endsSo 58 = .ok (.iaload, 1) := dk_46 (dk_at dksX0_endsSo_2 11 rfl rfl)
theorem dX0_endsSo_59 : decode cX0_endsSo 59 = .ok (.aload 4, 2) := dk_25 4 (dk_at dksX0_endsSo_2 12 rfl rfl)
theorem dX0_endsSo_61 : decode cX0_endsSo 61 = .ok (.getfield 154, 3) := dk_180 0 154 (dk_at dksX0_endsSo_2 14 rfl rfl)
theorem dX0_endsSo_64 : decode cX0_endsSo 64 = .ok (.isub, 1) := dk_100 (dk_at dksX0_endsSo_2 17 rfl rfl)
theorem dX0_endsSo_65 : decode cX0_endsSo 65 = .ok (.iload 6, 2) := dk_21 6 (dk_at dksX0_endsSo_2 18 rfl rfl)
theorem dX0_endsSo_67 : decode cX0_endsSo 67 = .ok (.iadd, 1) := dk_96 (dk_at dksX0_endsSo_2 20 rfl rfl)
theorem dX0_endsSo_68 : decode cX0_endsSo 68 = .ok (.baload, 1) := dk_51 (dk_at dksX0_endsSo_2 21 rfl rfl)
theorem dX0_endsSo_69 : decode cX0_endsSo 69 = .ok (.aload 4, 2) := dk_25 4 (dk_at dksX0_endsSo_2 22 rfl rfl)
theorem dX0_endsSo_71 : decode cX0_endsSo 71 = .ok (.getfield 158, 3) := dk_180 0 158 (dk_at dksX0_endsSo_3 0 rfl rfl)
theorem dX0_endsSo_74 : decode cX0_endsSo 74 = .ok (.iload 6, 2) := dk_21 6 (dk_at dksX0_endsSo_3 3 rfl rfl)
theorem dX0_endsSo_76 : decode cX0_endsSo 76 = .ok (.baload, 1) := dk_51 (dk_at dksX0_endsSo_3 5 rfl rfl)
theorem dX0_endsSo_77 : decode cX0_endsSo 77 = .ok (.if_icmp .ne 7, 3) := dk_160 0 7 (dk_at dksX0_endsSo_3 6 rfl rfl)
theorem dX0_endsSo_80 : decode cX0_endsSo 80 = .ok (.iconst 1, 1) := dk_4 (dk_at dksX0_endsSo_3 9 rfl rfl)
theorem dX0_endsSo_81 : decode cX0_endsSo 81 = .ok (.goto 4, 3) := dk_167 0 4 (dk_at dksX0_endsSo_3 10 rfl rfl)
theorem dX0_endsSo_84 : decode cX0_endsSo 84 = .ok (.iconst 0, 1) := dk_3 (dk_at dksX0_endsSo_3 13 rfl rfl)
theorem dX0_endsSo_85 : decode cX0_endsSo 85 = .ok (.istore 5, 2) := dk_54 5 (dk_at dksX0_endsSo_3 14 rfl rfl)
theorem dX0_endsSo_87 : decode cX0_endsSo 87 = .ok (.iinc 6 1, 3) := dk_132 6 1 (dk_at dksX0_endsSo_3 16 rfl rfl)
theorem dX0_endsSo_90 : decode cX0_endsSo 90 = .ok (.goto (-58), 3) := dk_167 255 198 (dk_at dksX0_endsSo_3 19 rfl rfl)
theorem dX0_endsSo_93 : decode cX0_endsSo 93 = .ok (.iload 5, 2) := dk_21 5 (dk_at dksX0_endsSo_3 22 rfl rfl)
theorem dX0_endsSo_95 : decode cX0_endsSo 95 = .ok (.ireturn, 1) := dk_172 (dk_at dksX0_endsSo_4 0 rfl rfl)
abbrev cX0_heard : ByteArray := prog_1_method_31_code
def yX0_heard : MethodName := ⟨RX0, "heard", "(II)I"⟩
def dkwX0_heard_1 : List UInt8 := [180, 0, 33, 27, 28, 182, 0, 223, 167, 0, 4, 2, 172]
abbrev dktX0_heard_1 : List UInt8 := dkwX0_heard_1 ++ []
def dkwX0_heard_0 : List UInt8 := [42, 27, 182, 0, 106, 153, 0, 28, 28, 133, 9, 20, 0, 187, 184, 0, 3, 153, 0, 16, 42, 42]
abbrev dktX0_heard_0 : List UInt8 := dkwX0_heard_0 ++ dktX0_heard_1
theorem dksX0_heard_0 : cX0_heard.data.toList.drop 0 = dktX0_heard_0 := by decide +kernel
theorem dksX0_heard_1 : cX0_heard.data.toList.drop 22 = dktX0_heard_1 := dk_seg dksX0_heard_0 22 rfl rfl
theorem dX0_heard_0 : decode cX0_heard 0 = .ok (.aload_n 0, 1) := dk_42 (dk_at dksX0_heard_0 0 rfl rfl)
theorem dX0_heard_1 : decode cX0_heard 1 = .ok (.iload_n 1, 1) := dk_27 (dk_at dksX0_heard_0 1 rfl rfl)
theorem dX0_heard_2 : decode cX0_heard 2 = .ok (.invokevirtual 106, 3) := dk_182 0 106 (dk_at dksX0_heard_0 2 rfl rfl)
theorem dX0_heard_5 : decode cX0_heard 5 = .ok (.ifCond .eq 28, 3) := dk_153 0 28 (dk_at dksX0_heard_0 5 rfl rfl)
theorem dX0_heard_8 : decode cX0_heard 8 = .ok (.iload_n 2, 1) := dk_28 (dk_at dksX0_heard_0 8 rfl rfl)
theorem dX0_heard_9 : decode cX0_heard 9 = .ok (.i2l, 1) := dk_133 (dk_at dksX0_heard_0 9 rfl rfl)
theorem dX0_heard_10 : decode cX0_heard 10 = .ok (.lconst 0, 1) := dk_9 (dk_at dksX0_heard_0 10 rfl rfl)
theorem dX0_heard_11 : decode cX0_heard 11 = .ok (.ldc2_w 187, 3) := dk_20 0 187 (dk_at dksX0_heard_0 11 rfl rfl)
theorem dX0_heard_14 : decode cX0_heard 14 = .ok (.invokestatic 3, 3) := dk_184 0 3 (dk_at dksX0_heard_0 14 rfl rfl)
theorem dX0_heard_17 : decode cX0_heard 17 = .ok (.ifCond .eq 16, 3) := dk_153 0 16 (dk_at dksX0_heard_0 17 rfl rfl)
theorem dX0_heard_20 : decode cX0_heard 20 = .ok (.aload_n 0, 1) := dk_42 (dk_at dksX0_heard_0 20 rfl rfl)
theorem dX0_heard_21 : decode cX0_heard 21 = .ok (.aload_n 0, 1) := dk_42 (dk_at dksX0_heard_0 21 rfl rfl)
theorem dX0_heard_22 : decode cX0_heard 22 = .ok (.getfield 33, 3) := dk_180 0 33 (dk_at dksX0_heard_1 0 rfl rfl)
theorem dX0_heard_25 : decode cX0_heard 25 = .ok (.iload_n 1, 1) := dk_27 (dk_at dksX0_heard_1 3 rfl rfl)
theorem dX0_heard_26 : decode cX0_heard 26 = .ok (.iload_n 2, 1) := dk_28 (dk_at dksX0_heard_1 4 rfl rfl)
theorem dX0_heard_27 : decode cX0_heard 27 = .ok (.invokevirtual 223, 3) := dk_182 0 223 (dk_at dksX0_heard_1 5 rfl rfl)
theorem dX0_heard_30 : decode cX0_heard 30 = .ok (.goto 4, 3) := dk_167 0 4 (dk_at dksX0_heard_1 8 rfl rfl)
theorem dX0_heard_33 : decode cX0_heard 33 = .ok (.iconst (-1), 1) := dk_2 (dk_at dksX0_heard_1 11 rfl rfl)
theorem dX0_heard_34 : decode cX0_heard 34 = .ok (.ireturn, 1) := dk_172 (dk_at dksX0_heard_1 12 rfl rfl)
abbrev cX0_heardIn : ByteArray := prog_1_method_30_code
def yX0_heardIn : MethodName := ⟨RX0, "heardIn", "(LEchoPens$Farm;II)I"⟩
def dkwX0_heardIn_2 : List UInt8 := [54, 4, 132, 5, 1, 167, 255, 210, 21, 4, 172]
abbrev dktX0_heardIn_2 : List UInt8 := dkwX0_heardIn_2 ++ []
def dkwX0_heardIn_1 : List UInt8 := [28, 160, 0, 20, 43, 21, 5, 29, 182, 0, 220, 153, 0, 10, 4, 21, 5, 120, 167, 0, 4, 3, 128]
abbrev dktX0_heardIn_1 : List UInt8 := dkwX0_heardIn_1 ++ dktX0_heardIn_2
def dkwX0_heardIn_0 : List UInt8 := [3, 54, 4, 3, 54, 5, 21, 5, 43, 180, 0, 86, 162, 0, 43, 21, 4, 43, 180, 0, 128, 21, 5, 46]
abbrev dktX0_heardIn_0 : List UInt8 := dkwX0_heardIn_0 ++ dktX0_heardIn_1
theorem dksX0_heardIn_0 : cX0_heardIn.data.toList.drop 0 = dktX0_heardIn_0 := by decide +kernel
theorem dksX0_heardIn_1 : cX0_heardIn.data.toList.drop 24 = dktX0_heardIn_1 := dk_seg dksX0_heardIn_0 24 rfl rfl
theorem dksX0_heardIn_2 : cX0_heardIn.data.toList.drop 47 = dktX0_heardIn_2 := dk_seg dksX0_heardIn_1 23 rfl rfl
theorem dX0_heardIn_0 : decode cX0_heardIn 0 = .ok (.iconst 0, 1) := dk_3 (dk_at dksX0_heardIn_0 0 rfl rfl)
theorem dX0_heardIn_1 : decode cX0_heardIn 1 = .ok (.istore 4, 2) := dk_54 4 (dk_at dksX0_heardIn_0 1 rfl rfl)
theorem dX0_heardIn_3 : decode cX0_heardIn 3 = .ok (.iconst 0, 1) := dk_3 (dk_at dksX0_heardIn_0 3 rfl rfl)
theorem dX0_heardIn_4 : decode cX0_heardIn 4 = .ok (.istore 5, 2) := dk_54 5 (dk_at dksX0_heardIn_0 4 rfl rfl)
theorem dX0_heardIn_6 : decode cX0_heardIn 6 = .ok (.iload 5, 2) := dk_21 5 (dk_at dksX0_heardIn_0 6 rfl rfl)
theorem dX0_heardIn_8 : decode cX0_heardIn 8 = .ok (.aload_n 1, 1) := dk_43 (dk_at dksX0_heardIn_0 8 rfl rfl)
theorem dX0_heardIn_9 : decode cX0_heardIn 9 = .ok (.getfield 86, 3) := dk_180 0 86 (dk_at dksX0_heardIn_0 9 rfl rfl)
theorem dX0_heardIn_12 : decode cX0_heardIn 12 = .ok (.if_icmp .ge 43, 3) := dk_162 0 43 (dk_at dksX0_heardIn_0 12 rfl rfl)
theorem dX0_heardIn_15 : decode cX0_heardIn 15 = .ok (.iload 4, 2) := dk_21 4 (dk_at dksX0_heardIn_0 15 rfl rfl)
theorem dX0_heardIn_17 : decode cX0_heardIn 17 = .ok (.aload_n 1, 1) := dk_43 (dk_at dksX0_heardIn_0 17 rfl rfl)
theorem dX0_heardIn_18 : decode cX0_heardIn 18 = .ok (.getfield 128, 3) := dk_180 0 128 (dk_at dksX0_heardIn_0 18 rfl rfl)
theorem dX0_heardIn_21 : decode cX0_heardIn 21 = .ok (.iload 5, 2) := dk_21 5 (dk_at dksX0_heardIn_0 21 rfl rfl)
theorem dX0_heardIn_23 : decode cX0_heardIn 23 = .ok (.iaload, 1) := dk_46 (dk_at dksX0_heardIn_0 23 rfl rfl)
theorem dX0_heardIn_24 : decode cX0_heardIn 24 = .ok (.iload_n 2, 1) := dk_28 (dk_at dksX0_heardIn_1 0 rfl rfl)
theorem dX0_heardIn_25 : decode cX0_heardIn 25 = .ok (.if_icmp .ne 20, 3) := dk_160 0 20 (dk_at dksX0_heardIn_1 1 rfl rfl)
theorem dX0_heardIn_28 : decode cX0_heardIn 28 = .ok (.aload_n 1, 1) := dk_43 (dk_at dksX0_heardIn_1 4 rfl rfl)
theorem dX0_heardIn_29 : decode cX0_heardIn 29 = .ok (.iload 5, 2) := dk_21 5 (dk_at dksX0_heardIn_1 5 rfl rfl)
theorem dX0_heardIn_31 : decode cX0_heardIn 31 = .ok (.iload_n 3, 1) := dk_29 (dk_at dksX0_heardIn_1 7 rfl rfl)
theorem dX0_heardIn_32 : decode cX0_heardIn 32 = .ok (.invokevirtual 220, 3) := dk_182 0 220 (dk_at dksX0_heardIn_1 8 rfl rfl)
theorem dX0_heardIn_35 : decode cX0_heardIn 35 = .ok (.ifCond .eq 10, 3) := dk_153 0 10 (dk_at dksX0_heardIn_1 11 rfl rfl)
theorem dX0_heardIn_38 : decode cX0_heardIn 38 = .ok (.iconst 1, 1) := dk_4 (dk_at dksX0_heardIn_1 14 rfl rfl)
theorem dX0_heardIn_39 : decode cX0_heardIn 39 = .ok (.iload 5, 2) := dk_21 5 (dk_at dksX0_heardIn_1 15 rfl rfl)
theorem dX0_heardIn_41 : decode cX0_heardIn 41 = .ok (.ishl, 1) := dk_120 (dk_at dksX0_heardIn_1 17 rfl rfl)
theorem dX0_heardIn_42 : decode cX0_heardIn 42 = .ok (.goto 4, 3) := dk_167 0 4 (dk_at dksX0_heardIn_1 18 rfl rfl)
theorem dX0_heardIn_45 : decode cX0_heardIn 45 = .ok (.iconst 0, 1) := dk_3 (dk_at dksX0_heardIn_1 21 rfl rfl)
theorem dX0_heardIn_46 : decode cX0_heardIn 46 = .ok (.ior, 1) := dk_128 (dk_at dksX0_heardIn_1 22 rfl rfl)
theorem dX0_heardIn_47 : decode cX0_heardIn 47 = .ok (.istore 4, 2) := dk_54 4 (dk_at dksX0_heardIn_2 0 rfl rfl)
theorem dX0_heardIn_49 : decode cX0_heardIn 49 = .ok (.iinc 5 1, 3) := dk_132 5 1 (dk_at dksX0_heardIn_2 2 rfl rfl)
theorem dX0_heardIn_52 : decode cX0_heardIn 52 = .ok (.goto (-46), 3) := dk_167 255 210 (dk_at dksX0_heardIn_2 5 rfl rfl)
theorem dX0_heardIn_55 : decode cX0_heardIn 55 = .ok (.iload 4, 2) := dk_21 4 (dk_at dksX0_heardIn_2 8 rfl rfl)
theorem dX0_heardIn_57 : decode cX0_heardIn 57 = .ok (.ireturn, 1) := dk_172 (dk_at dksX0_heardIn_2 10 rfl rfl)
abbrev cX0_together : ByteArray := prog_1_method_32_code
def yX0_together : MethodName := ⟨RX0, "together", "(I)I"⟩
def dkwX0_together_2 : List UInt8 := [160, 0, 5, 28, 172, 132, 2, 1, 167, 255, 213, 16, 252, 172]
abbrev dktX0_together_2 : List UInt8 := dkwX0_together_2 ++ []
def dkwX0_together_1 : List UInt8 := [182, 0, 95, 153, 0, 32, 42, 42, 180, 0, 33, 27, 28, 182, 0, 223, 42, 180, 0, 33, 27, 182, 0, 95]
abbrev dktX0_together_1 : List UInt8 := dkwX0_together_1 ++ dktX0_together_2
def dkwX0_together_0 : List UInt8 := [42, 27, 182, 0, 106, 154, 0, 5, 2, 172, 3, 61, 28, 16, 99, 163, 0, 43, 42, 180, 0, 33, 27]
abbrev dktX0_together_0 : List UInt8 := dkwX0_together_0 ++ dktX0_together_1
theorem dksX0_together_0 : cX0_together.data.toList.drop 0 = dktX0_together_0 := by decide +kernel
theorem dksX0_together_1 : cX0_together.data.toList.drop 23 = dktX0_together_1 := dk_seg dksX0_together_0 23 rfl rfl
theorem dksX0_together_2 : cX0_together.data.toList.drop 47 = dktX0_together_2 := dk_seg dksX0_together_1 24 rfl rfl
theorem dX0_together_0 : decode cX0_together 0 = .ok (.aload_n 0, 1) := dk_42 (dk_at dksX0_together_0 0 rfl rfl)
theorem dX0_together_1 : decode cX0_together 1 = .ok (.iload_n 1, 1) := dk_27 (dk_at dksX0_together_0 1 rfl rfl)
theorem dX0_together_2 : decode cX0_together 2 = .ok (.invokevirtual 106, 3) := dk_182 0 106 (dk_at dksX0_together_0 2 rfl rfl)
theorem dX0_together_5 : decode cX0_together 5 = .ok (.ifCond .ne 5, 3) := dk_154 0 5 (dk_at dksX0_together_0 5 rfl rfl)
theorem dX0_together_8 : decode cX0_together 8 = .ok (.iconst (-1), 1) := dk_2 (dk_at dksX0_together_0 8 rfl rfl)
theorem dX0_together_9 : decode cX0_together 9 = .ok (.ireturn, 1) := dk_172 (dk_at dksX0_together_0 9 rfl rfl)
theorem dX0_together_10 : decode cX0_together 10 = .ok (.iconst 0, 1) := dk_3 (dk_at dksX0_together_0 10 rfl rfl)
theorem dX0_together_11 : decode cX0_together 11 = .ok (.istore_n 2, 1) := dk_61 (dk_at dksX0_together_0 11 rfl rfl)
theorem dX0_together_12 : decode cX0_together 12 = .ok (.iload_n 2, 1) := dk_28 (dk_at dksX0_together_0 12 rfl rfl)
theorem dX0_together_13 : decode cX0_together 13 = .ok (.bipush 99, 2) := dk_16 99 (dk_at dksX0_together_0 13 rfl rfl)
theorem dX0_together_15 : decode cX0_together 15 = .ok (.if_icmp .gt 43, 3) := dk_163 0 43 (dk_at dksX0_together_0 15 rfl rfl)
theorem dX0_together_18 : decode cX0_together 18 = .ok (.aload_n 0, 1) := dk_42 (dk_at dksX0_together_0 18 rfl rfl)
theorem dX0_together_19 : decode cX0_together 19 = .ok (.getfield 33, 3) := dk_180 0 33 (dk_at dksX0_together_0 19 rfl rfl)
theorem dX0_together_22 : decode cX0_together 22 = .ok (.iload_n 1, 1) := dk_27 (dk_at dksX0_together_0 22 rfl rfl)
theorem dX0_together_23 : decode cX0_together 23 = .ok (.invokevirtual 95, 3) := dk_182 0 95 (dk_at dksX0_together_1 0 rfl rfl)
theorem dX0_together_26 : decode cX0_together 26 = .ok (.ifCond .eq 32, 3) := dk_153 0 32 (dk_at dksX0_together_1 3 rfl rfl)
theorem dX0_together_29 : decode cX0_together 29 = .ok (.aload_n 0, 1) := dk_42 (dk_at dksX0_together_1 6 rfl rfl)
theorem dX0_together_30 : decode cX0_together 30 = .ok (.aload_n 0, 1) := dk_42 (dk_at dksX0_together_1 7 rfl rfl)
theorem dX0_together_31 : decode cX0_together 31 = .ok (.getfield 33, 3) := dk_180 0 33 (dk_at dksX0_together_1 8 rfl rfl)
theorem dX0_together_34 : decode cX0_together 34 = .ok (.iload_n 1, 1) := dk_27 (dk_at dksX0_together_1 11 rfl rfl)
theorem dX0_together_35 : decode cX0_together 35 = .ok (.iload_n 2, 1) := dk_28 (dk_at dksX0_together_1 12 rfl rfl)
theorem dX0_together_36 : decode cX0_together 36 = .ok (.invokevirtual 223, 3) := dk_182 0 223 (dk_at dksX0_together_1 13 rfl rfl)
theorem dX0_together_39 : decode cX0_together 39 = .ok (.aload_n 0, 1) := dk_42 (dk_at dksX0_together_1 16 rfl rfl)
theorem dX0_together_40 : decode cX0_together 40 = .ok (.getfield 33, 3) := dk_180 0 33 (dk_at dksX0_together_1 17 rfl rfl)
theorem dX0_together_43 : decode cX0_together 43 = .ok (.iload_n 1, 1) := dk_27 (dk_at dksX0_together_1 20 rfl rfl)
theorem dX0_together_44 : decode cX0_together 44 = .ok (.invokevirtual 95, 3) := dk_182 0 95 (dk_at dksX0_together_1 21 rfl rfl)
theorem dX0_together_47 : decode cX0_together 47 = .ok (.if_icmp .ne 5, 3) := dk_160 0 5 (dk_at dksX0_together_2 0 rfl rfl)
theorem dX0_together_50 : decode cX0_together 50 = .ok (.iload_n 2, 1) := dk_28 (dk_at dksX0_together_2 3 rfl rfl)
theorem dX0_together_51 : decode cX0_together 51 = .ok (.ireturn, 1) := dk_172 (dk_at dksX0_together_2 4 rfl rfl)
theorem dX0_together_52 : decode cX0_together 52 = .ok (.iinc 2 1, 3) := dk_132 2 1 (dk_at dksX0_together_2 5 rfl rfl)
theorem dX0_together_55 : decode cX0_together 55 = .ok (.goto (-43), 3) := dk_167 255 213 (dk_at dksX0_together_2 8 rfl rfl)
theorem dX0_together_58 : decode cX0_together 58 = .ok (.bipush (-4), 2) := dk_16 252 (dk_at dksX0_together_2 11 rfl rfl)
theorem dX0_together_60 : decode cX0_together 60 = .ok (.ireturn, 1) := dk_172 (dk_at dksX0_together_2 13 rfl rfl)
abbrev cX0_still : ByteArray := prog_1_method_33_code
def yX0_still : MethodName := ⟨RX0, "still", "(I)I"⟩
def dkwX0_still_4 : List UInt8 := [184, 0, 227, 167, 0, 4, 28, 61, 132, 3, 1, 167, 255, 166, 28, 172]
abbrev dktX0_still_4 : List UInt8 := dkwX0_still_4 ++ []
def dkwX0_still_3 : List UInt8 := [160, 0, 10, 21, 4, 4, 100, 167, 0, 5, 21, 4, 104, 54, 5, 21, 4, 158, 0, 12, 28, 21, 5]
abbrev dktX0_still_3 : List UInt8 := dkwX0_still_3 ++ dktX0_still_4
def dkwX0_still_2 : List UInt8 := [167, 0, 4, 3, 54, 4, 42, 180, 0, 33, 29, 182, 0, 137, 42, 180, 0, 33, 180, 0, 122, 29, 46, 5]
abbrev dktX0_still_2 : List UInt8 := dkwX0_still_2 ++ dktX0_still_3
def dkwX0_still_1 : List UInt8 := [162, 0, 85, 42, 180, 0, 33, 180, 0, 128, 29, 46, 27, 160, 0, 14, 42, 180, 0, 33, 29, 182, 0, 131]
abbrev dktX0_still_1 : List UInt8 := dkwX0_still_1 ++ dktX0_still_2
def dkwX0_still_0 : List UInt8 := [42, 27, 182, 0, 106, 154, 0, 5, 2, 172, 16, 252, 61, 3, 62, 29, 42, 180, 0, 33, 180, 0, 86]
abbrev dktX0_still_0 : List UInt8 := dkwX0_still_0 ++ dktX0_still_1
theorem dksX0_still_0 : cX0_still.data.toList.drop 0 = dktX0_still_0 := by decide +kernel
theorem dksX0_still_1 : cX0_still.data.toList.drop 23 = dktX0_still_1 := dk_seg dksX0_still_0 23 rfl rfl
theorem dksX0_still_2 : cX0_still.data.toList.drop 47 = dktX0_still_2 := dk_seg dksX0_still_1 24 rfl rfl
theorem dksX0_still_3 : cX0_still.data.toList.drop 71 = dktX0_still_3 := dk_seg dksX0_still_2 24 rfl rfl
theorem dksX0_still_4 : cX0_still.data.toList.drop 94 = dktX0_still_4 := dk_seg dksX0_still_3 23 rfl rfl
theorem dX0_still_0 : decode cX0_still 0 = .ok (.aload_n 0, 1) := dk_42 (dk_at dksX0_still_0 0 rfl rfl)
theorem dX0_still_1 : decode cX0_still 1 = .ok (.iload_n 1, 1) := dk_27 (dk_at dksX0_still_0 1 rfl rfl)
theorem dX0_still_2 : decode cX0_still 2 = .ok (.invokevirtual 106, 3) := dk_182 0 106 (dk_at dksX0_still_0 2 rfl rfl)
theorem dX0_still_5 : decode cX0_still 5 = .ok (.ifCond .ne 5, 3) := dk_154 0 5 (dk_at dksX0_still_0 5 rfl rfl)
theorem dX0_still_8 : decode cX0_still 8 = .ok (.iconst (-1), 1) := dk_2 (dk_at dksX0_still_0 8 rfl rfl)
theorem dX0_still_9 : decode cX0_still 9 = .ok (.ireturn, 1) := dk_172 (dk_at dksX0_still_0 9 rfl rfl)
theorem dX0_still_10 : decode cX0_still 10 = .ok (.bipush (-4), 2) := dk_16 252 (dk_at dksX0_still_0 10 rfl rfl)
theorem dX0_still_12 : decode cX0_still 12 = .ok (.istore_n 2, 1) := dk_61 (dk_at dksX0_still_0 12 rfl rfl)
theorem dX0_still_13 : decode cX0_still 13 = .ok (.iconst 0, 1) := dk_3 (dk_at dksX0_still_0 13 rfl rfl)
theorem dX0_still_14 : decode cX0_still 14 = .ok (.istore_n 3, 1) := dk_62 (dk_at dksX0_still_0 14 rfl rfl)
theorem dX0_still_15 : decode cX0_still 15 = .ok (.iload_n 3, 1) := dk_29 (dk_at dksX0_still_0 15 rfl rfl)
theorem dX0_still_16 : decode cX0_still 16 = .ok (.aload_n 0, 1) := dk_42 (dk_at dksX0_still_0 16 rfl rfl)
theorem dX0_still_17 : decode cX0_still 17 = .ok (.getfield 33, 3) := dk_180 0 33 (dk_at dksX0_still_0 17 rfl rfl)
theorem dX0_still_20 : decode cX0_still 20 = .ok (.getfield 86, 3) := dk_180 0 86 (dk_at dksX0_still_0 20 rfl rfl)
theorem dX0_still_23 : decode cX0_still 23 = .ok (.if_icmp .ge 85, 3) := dk_162 0 85 (dk_at dksX0_still_1 0 rfl rfl)
theorem dX0_still_26 : decode cX0_still 26 = .ok (.aload_n 0, 1) := dk_42 (dk_at dksX0_still_1 3 rfl rfl)
theorem dX0_still_27 : decode cX0_still 27 = .ok (.getfield 33, 3) := dk_180 0 33 (dk_at dksX0_still_1 4 rfl rfl)
theorem dX0_still_30 : decode cX0_still 30 = .ok (.getfield 128, 3) := dk_180 0 128 (dk_at dksX0_still_1 7 rfl rfl)
theorem dX0_still_33 : decode cX0_still 33 = .ok (.iload_n 3, 1) := dk_29 (dk_at dksX0_still_1 10 rfl rfl)
theorem dX0_still_34 : decode cX0_still 34 = .ok (.iaload, 1) := dk_46 (dk_at dksX0_still_1 11 rfl rfl)
theorem dX0_still_35 : decode cX0_still 35 = .ok (.iload_n 1, 1) := dk_27 (dk_at dksX0_still_1 12 rfl rfl)
theorem dX0_still_36 : decode cX0_still 36 = .ok (.if_icmp .ne 14, 3) := dk_160 0 14 (dk_at dksX0_still_1 13 rfl rfl)
theorem dX0_still_39 : decode cX0_still 39 = .ok (.aload_n 0, 1) := dk_42 (dk_at dksX0_still_1 16 rfl rfl)
theorem dX0_still_40 : decode cX0_still 40 = .ok (.getfield 33, 3) := dk_180 0 33 (dk_at dksX0_still_1 17 rfl rfl)
theorem dX0_still_43 : decode cX0_still 43 = .ok (.iload_n 3, 1) := dk_29 (dk_at dksX0_still_1 20 rfl rfl)
theorem dX0_still_44 : decode cX0_still 44 = .ok (.invokevirtual 131, 3) := dk_182 0 131 (dk_at dksX0_still_1 21 rfl rfl)
theorem dX0_still_47 : decode cX0_still 47 = .ok (.goto 4, 3) := dk_167 0 4 (dk_at dksX0_still_2 0 rfl rfl)
theorem dX0_still_50 : decode cX0_still 50 = .ok (.iconst 0, 1) := dk_3 (dk_at dksX0_still_2 3 rfl rfl)
theorem dX0_still_51 : decode cX0_still 51 = .ok (.istore 4, 2) := dk_54 4 (dk_at dksX0_still_2 4 rfl rfl)
theorem dX0_still_53 : decode cX0_still 53 = .ok (.aload_n 0, 1) := dk_42 (dk_at dksX0_still_2 6 rfl rfl)
theorem dX0_still_54 : decode cX0_still 54 = .ok (.getfield 33, 3) := dk_180 0 33 (dk_at dksX0_still_2 7 rfl rfl)
theorem dX0_still_57 : decode cX0_still 57 = .ok (.iload_n 3, 1) := dk_29 (dk_at dksX0_still_2 10 rfl rfl)
theorem dX0_still_58 : decode cX0_still 58 = .ok (.invokevirtual 137, 3) := dk_182 0 137 (dk_at dksX0_still_2 11 rfl rfl)
theorem dX0_still_61 : decode cX0_still 61 = .ok (.aload_n 0, 1) := dk_42 (dk_at dksX0_still_2 14 rfl rfl)
theorem dX0_still_62 : decode cX0_still 62 = .ok (.getfield 33, 3) := dk_180 0 33 (dk_at dksX0_still_2 15 rfl rfl)
theorem dX0_still_65 : decode cX0_still 65 = .ok (.getfield 122, 3) := dk_180 0 122 (dk_at dksX0_still_2 18 rfl rfl)
theorem dX0_still_68 : decode cX0_still 68 = .ok (.iload_n 3, 1) := dk_29 (dk_at dksX0_still_2 21 rfl rfl)
theorem dX0_still_69 : decode cX0_still 69 = .ok (.iaload, 1) := dk_46 (dk_at dksX0_still_2 22 rfl rfl)
theorem dX0_still_70 : decode cX0_still 70 = .ok (.iconst 2, 1) := dk_5 (dk_at dksX0_still_2 23 rfl rfl)
theorem dX0_still_71 : decode cX0_still 71 = .ok (.if_icmp .ne 10, 3) := dk_160 0 10 (dk_at dksX0_still_3 0 rfl rfl)
theorem dX0_still_74 : decode cX0_still 74 = .ok (.iload 4, 2) := dk_21 4 (dk_at dksX0_still_3 3 rfl rfl)
theorem dX0_still_76 : decode cX0_still 76 = .ok (.iconst 1, 1) := dk_4 (dk_at dksX0_still_3 5 rfl rfl)
theorem dX0_still_77 : decode cX0_still 77 = .ok (.isub, 1) := dk_100 (dk_at dksX0_still_3 6 rfl rfl)
theorem dX0_still_78 : decode cX0_still 78 = .ok (.goto 5, 3) := dk_167 0 5 (dk_at dksX0_still_3 7 rfl rfl)
theorem dX0_still_81 : decode cX0_still 81 = .ok (.iload 4, 2) := dk_21 4 (dk_at dksX0_still_3 10 rfl rfl)
theorem dX0_still_83 : decode cX0_still 83 = .ok (.imul, 1) := dk_104 (dk_at dksX0_still_3 12 rfl rfl)
theorem dX0_still_84 : decode cX0_still 84 = .ok (.istore 5, 2) := dk_54 5 (dk_at dksX0_still_3 13 rfl rfl)
theorem dX0_still_86 : decode cX0_still 86 = .ok (.iload 4, 2) := dk_21 4 (dk_at dksX0_still_3 15 rfl rfl)
theorem dX0_still_88 : decode cX0_still 88 = .ok (.ifCond .le 12, 3) := dk_158 0 12 (dk_at dksX0_still_3 17 rfl rfl)
theorem dX0_still_91 : decode cX0_still 91 = .ok (.iload_n 2, 1) := dk_28 (dk_at dksX0_still_3 20 rfl rfl)
theorem dX0_still_92 : decode cX0_still 92 = .ok (.iload 5, 2) := dk_21 5 (dk_at dksX0_still_3 21 rfl rfl)
theorem dX0_still_94 : decode cX0_still 94 = .ok (.invokestatic 227, 3) := dk_184 0 227 (dk_at dksX0_still_4 0 rfl rfl)
theorem dX0_still_97 : decode cX0_still 97 = .ok (.goto 4, 3) := dk_167 0 4 (dk_at dksX0_still_4 3 rfl rfl)
theorem dX0_still_100 : decode cX0_still 100 = .ok (.iload_n 2, 1) := dk_28 (dk_at dksX0_still_4 6 rfl rfl)
theorem dX0_still_101 : decode cX0_still 101 = .ok (.istore_n 2, 1) := dk_61 (dk_at dksX0_still_4 7 rfl rfl)
theorem dX0_still_102 : decode cX0_still 102 = .ok (.iinc 3 1, 3) := dk_132 3 1 (dk_at dksX0_still_4 8 rfl rfl)
theorem dX0_still_105 : decode cX0_still 105 = .ok (.goto (-90), 3) := dk_167 255 166 (dk_at dksX0_still_4 11 rfl rfl)
theorem dX0_still_108 : decode cX0_still 108 = .ok (.iload_n 2, 1) := dk_28 (dk_at dksX0_still_4 14 rfl rfl)
theorem dX0_still_109 : decode cX0_still 109 = .ok (.ireturn, 1) := dk_172 (dk_at dksX0_still_4 15 rfl rfl)
abbrev cX0_meets : ByteArray := prog_1_method_34_code
def yX0_meets : MethodName := ⟨RX0, "meets", "(I)I"⟩
def dkwX0_meets_2 : List UInt8 := [167, 255, 222, 28, 172]
abbrev dktX0_meets_2 : List UInt8 := dkwX0_meets_2 ++ []
def dkwX0_meets_1 : List UInt8 := [42, 180, 0, 33, 27, 29, 182, 0, 217, 153, 0, 9, 4, 29, 120, 167, 0, 4, 3, 128, 61, 132, 3, 1]
abbrev dktX0_meets_1 : List UInt8 := dkwX0_meets_1 ++ dktX0_meets_2
def dkwX0_meets_0 : List UInt8 := [42, 27, 182, 0, 119, 154, 0, 5, 2, 172, 3, 61, 3, 62, 29, 42, 180, 0, 58, 162, 0, 32, 28, 42]
abbrev dktX0_meets_0 : List UInt8 := dkwX0_meets_0 ++ dktX0_meets_1
theorem dksX0_meets_0 : cX0_meets.data.toList.drop 0 = dktX0_meets_0 := by decide +kernel
theorem dksX0_meets_1 : cX0_meets.data.toList.drop 24 = dktX0_meets_1 := dk_seg dksX0_meets_0 24 rfl rfl
theorem dksX0_meets_2 : cX0_meets.data.toList.drop 48 = dktX0_meets_2 := dk_seg dksX0_meets_1 24 rfl rfl
theorem dX0_meets_0 : decode cX0_meets 0 = .ok (.aload_n 0, 1) := dk_42 (dk_at dksX0_meets_0 0 rfl rfl)
theorem dX0_meets_1 : decode cX0_meets 1 = .ok (.iload_n 1, 1) := dk_27 (dk_at dksX0_meets_0 1 rfl rfl)
theorem dX0_meets_2 : decode cX0_meets 2 = .ok (.invokevirtual 119, 3) := dk_182 0 119 (dk_at dksX0_meets_0 2 rfl rfl)
theorem dX0_meets_5 : decode cX0_meets 5 = .ok (.ifCond .ne 5, 3) := dk_154 0 5 (dk_at dksX0_meets_0 5 rfl rfl)
theorem dX0_meets_8 : decode cX0_meets 8 = .ok (.iconst (-1), 1) := dk_2 (dk_at dksX0_meets_0 8 rfl rfl)
theorem dX0_meets_9 : decode cX0_meets 9 = .ok (.ireturn, 1) := dk_172 (dk_at dksX0_meets_0 9 rfl rfl)
theorem dX0_meets_10 : decode cX0_meets 10 = .ok (.iconst 0, 1) := dk_3 (dk_at dksX0_meets_0 10 rfl rfl)
theorem dX0_meets_11 : decode cX0_meets 11 = .ok (.istore_n 2, 1) := dk_61 (dk_at dksX0_meets_0 11 rfl rfl)
theorem dX0_meets_12 : decode cX0_meets 12 = .ok (.iconst 0, 1) := dk_3 (dk_at dksX0_meets_0 12 rfl rfl)
theorem dX0_meets_13 : decode cX0_meets 13 = .ok (.istore_n 3, 1) := dk_62 (dk_at dksX0_meets_0 13 rfl rfl)
theorem dX0_meets_14 : decode cX0_meets 14 = .ok (.iload_n 3, 1) := dk_29 (dk_at dksX0_meets_0 14 rfl rfl)
theorem dX0_meets_15 : decode cX0_meets 15 = .ok (.aload_n 0, 1) := dk_42 (dk_at dksX0_meets_0 15 rfl rfl)
theorem dX0_meets_16 : decode cX0_meets 16 = .ok (.getfield 58, 3) := dk_180 0 58 (dk_at dksX0_meets_0 16 rfl rfl)
theorem dX0_meets_19 : decode cX0_meets 19 = .ok (.if_icmp .ge 32, 3) := dk_162 0 32 (dk_at dksX0_meets_0 19 rfl rfl)
theorem dX0_meets_22 : decode cX0_meets 22 = .ok (.iload_n 2, 1) := dk_28 (dk_at dksX0_meets_0 22 rfl rfl)
theorem dX0_meets_23 : decode cX0_meets 23 = .ok (.aload_n 0, 1) := dk_42 (dk_at dksX0_meets_0 23 rfl rfl)
theorem dX0_meets_24 : decode cX0_meets 24 = .ok (.aload_n 0, 1) := dk_42 (dk_at dksX0_meets_1 0 rfl rfl)
theorem dX0_meets_25 : decode cX0_meets 25 = .ok (.getfield 33, 3) := dk_180 0 33 (dk_at dksX0_meets_1 1 rfl rfl)
theorem dX0_meets_28 : decode cX0_meets 28 = .ok (.iload_n 1, 1) := dk_27 (dk_at dksX0_meets_1 4 rfl rfl)
theorem dX0_meets_29 : decode cX0_meets 29 = .ok (.iload_n 3, 1) := dk_29 (dk_at dksX0_meets_1 5 rfl rfl)
theorem dX0_meets_30 : decode cX0_meets 30 = .ok (.invokevirtual 217, 3) := dk_182 0 217 (dk_at dksX0_meets_1 6 rfl rfl)
theorem dX0_meets_33 : decode cX0_meets 33 = .ok (.ifCond .eq 9, 3) := dk_153 0 9 (dk_at dksX0_meets_1 9 rfl rfl)
theorem dX0_meets_36 : decode cX0_meets 36 = .ok (.iconst 1, 1) := dk_4 (dk_at dksX0_meets_1 12 rfl rfl)
theorem dX0_meets_37 : decode cX0_meets 37 = .ok (.iload_n 3, 1) := dk_29 (dk_at dksX0_meets_1 13 rfl rfl)
theorem dX0_meets_38 : decode cX0_meets 38 = .ok (.ishl, 1) := dk_120 (dk_at dksX0_meets_1 14 rfl rfl)
theorem dX0_meets_39 : decode cX0_meets 39 = .ok (.goto 4, 3) := dk_167 0 4 (dk_at dksX0_meets_1 15 rfl rfl)
theorem dX0_meets_42 : decode cX0_meets 42 = .ok (.iconst 0, 1) := dk_3 (dk_at dksX0_meets_1 18 rfl rfl)
theorem dX0_meets_43 : decode cX0_meets 43 = .ok (.ior, 1) := dk_128 (dk_at dksX0_meets_1 19 rfl rfl)
theorem dX0_meets_44 : decode cX0_meets 44 = .ok (.istore_n 2, 1) := dk_61 (dk_at dksX0_meets_1 20 rfl rfl)
theorem dX0_meets_45 : decode cX0_meets 45 = .ok (.iinc 3 1, 3) := dk_132 3 1 (dk_at dksX0_meets_1 21 rfl rfl)
theorem dX0_meets_48 : decode cX0_meets 48 = .ok (.goto (-34), 3) := dk_167 255 222 (dk_at dksX0_meets_2 0 rfl rfl)
theorem dX0_meets_51 : decode cX0_meets 51 = .ok (.iload_n 2, 1) := dk_28 (dk_at dksX0_meets_2 3 rfl rfl)
theorem dX0_meets_52 : decode cX0_meets 52 = .ok (.ireturn, 1) := dk_172 (dk_at dksX0_meets_2 4 rfl rfl)
abbrev cX0_sell : ByteArray := prog_1_method_35_code
def yX0_sell : MethodName := ⟨RX0, "sell", "(II)I"⟩
def dkwX0_sell_3 : List UInt8 := [180, 0, 50, 28, 50, 180, 0, 151, 96, 181, 0, 92, 42, 180, 0, 33, 180, 0, 92, 172]
abbrev dktX0_sell_3 : List UInt8 := dkwX0_sell_3 ++ []
def dkwX0_sell_2 : List UInt8 := [180, 0, 33, 89, 180, 0, 103, 4, 28, 120, 128, 181, 0, 103, 42, 180, 0, 33, 89, 180, 0, 92, 42]
abbrev dktX0_sell_2 : List UInt8 := dkwX0_sell_2 ++ dktX0_sell_3
def dkwX0_sell_1 : List UInt8 := [28, 182, 0, 217, 154, 0, 6, 16, 254, 172, 42, 180, 0, 33, 180, 0, 128, 27, 16, 252, 79, 42]
abbrev dktX0_sell_1 : List UInt8 := dkwX0_sell_1 ++ dktX0_sell_2
def dkwX0_sell_0 : List UInt8 := [42, 27, 182, 0, 119, 153, 0, 11, 42, 28, 182, 0, 144, 154, 0, 5, 2, 172, 42, 42, 180, 0, 33, 27]
abbrev dktX0_sell_0 : List UInt8 := dkwX0_sell_0 ++ dktX0_sell_1
theorem dksX0_sell_0 : cX0_sell.data.toList.drop 0 = dktX0_sell_0 := by decide +kernel
theorem dksX0_sell_1 : cX0_sell.data.toList.drop 24 = dktX0_sell_1 := dk_seg dksX0_sell_0 24 rfl rfl
theorem dksX0_sell_2 : cX0_sell.data.toList.drop 46 = dktX0_sell_2 := dk_seg dksX0_sell_1 22 rfl rfl
theorem dksX0_sell_3 : cX0_sell.data.toList.drop 69 = dktX0_sell_3 := dk_seg dksX0_sell_2 23 rfl rfl
theorem dX0_sell_0 : decode cX0_sell 0 = .ok (.aload_n 0, 1) := dk_42 (dk_at dksX0_sell_0 0 rfl rfl)
theorem dX0_sell_1 : decode cX0_sell 1 = .ok (.iload_n 1, 1) := dk_27 (dk_at dksX0_sell_0 1 rfl rfl)
theorem dX0_sell_2 : decode cX0_sell 2 = .ok (.invokevirtual 119, 3) := dk_182 0 119 (dk_at dksX0_sell_0 2 rfl rfl)
theorem dX0_sell_5 : decode cX0_sell 5 = .ok (.ifCond .eq 11, 3) := dk_153 0 11 (dk_at dksX0_sell_0 5 rfl rfl)
theorem dX0_sell_8 : decode cX0_sell 8 = .ok (.aload_n 0, 1) := dk_42 (dk_at dksX0_sell_0 8 rfl rfl)
theorem dX0_sell_9 : decode cX0_sell 9 = .ok (.iload_n 2, 1) := dk_28 (dk_at dksX0_sell_0 9 rfl rfl)
theorem dX0_sell_10 : decode cX0_sell 10 = .ok (.invokevirtual 144, 3) := dk_182 0 144 (dk_at dksX0_sell_0 10 rfl rfl)
theorem dX0_sell_13 : decode cX0_sell 13 = .ok (.ifCond .ne 5, 3) := dk_154 0 5 (dk_at dksX0_sell_0 13 rfl rfl)
theorem dX0_sell_16 : decode cX0_sell 16 = .ok (.iconst (-1), 1) := dk_2 (dk_at dksX0_sell_0 16 rfl rfl)
theorem dX0_sell_17 : decode cX0_sell 17 = .ok (.ireturn, 1) := dk_172 (dk_at dksX0_sell_0 17 rfl rfl)
theorem dX0_sell_18 : decode cX0_sell 18 = .ok (.aload_n 0, 1) := dk_42 (dk_at dksX0_sell_0 18 rfl rfl)
theorem dX0_sell_19 : decode cX0_sell 19 = .ok (.aload_n 0, 1) := dk_42 (dk_at dksX0_sell_0 19 rfl rfl)
theorem dX0_sell_20 : decode cX0_sell 20 = .ok (.getfield 33, 3) := dk_180 0 33 (dk_at dksX0_sell_0 20 rfl rfl)
theorem dX0_sell_23 : decode cX0_sell 23 = .ok (.iload_n 1, 1) := dk_27 (dk_at dksX0_sell_0 23 rfl rfl)
theorem dX0_sell_24 : decode cX0_sell 24 = .ok (.iload_n 2, 1) := dk_28 (dk_at dksX0_sell_1 0 rfl rfl)
theorem dX0_sell_25 : decode cX0_sell 25 = .ok (.invokevirtual 217, 3) := dk_182 0 217 (dk_at dksX0_sell_1 1 rfl rfl)
theorem dX0_sell_28 : decode cX0_sell 28 = .ok (.ifCond .ne 6, 3) := dk_154 0 6 (dk_at dksX0_sell_1 4 rfl rfl)
theorem dX0_sell_31 : decode cX0_sell 31 = .ok (.bipush (-2), 2) := dk_16 254 (dk_at dksX0_sell_1 7 rfl rfl)
theorem dX0_sell_33 : decode cX0_sell 33 = .ok (.ireturn, 1) := dk_172 (dk_at dksX0_sell_1 9 rfl rfl)
theorem dX0_sell_34 : decode cX0_sell 34 = .ok (.aload_n 0, 1) := dk_42 (dk_at dksX0_sell_1 10 rfl rfl)
theorem dX0_sell_35 : decode cX0_sell 35 = .ok (.getfield 33, 3) := dk_180 0 33 (dk_at dksX0_sell_1 11 rfl rfl)
theorem dX0_sell_38 : decode cX0_sell 38 = .ok (.getfield 128, 3) := dk_180 0 128 (dk_at dksX0_sell_1 14 rfl rfl)
theorem dX0_sell_41 : decode cX0_sell 41 = .ok (.iload_n 1, 1) := dk_27 (dk_at dksX0_sell_1 17 rfl rfl)
theorem dX0_sell_42 : decode cX0_sell 42 = .ok (.bipush (-4), 2) := dk_16 252 (dk_at dksX0_sell_1 18 rfl rfl)
theorem dX0_sell_44 : decode cX0_sell 44 = .ok (.iastore, 1) := dk_79 (dk_at dksX0_sell_1 20 rfl rfl)
theorem dX0_sell_45 : decode cX0_sell 45 = .ok (.aload_n 0, 1) := dk_42 (dk_at dksX0_sell_1 21 rfl rfl)
theorem dX0_sell_46 : decode cX0_sell 46 = .ok (.getfield 33, 3) := dk_180 0 33 (dk_at dksX0_sell_2 0 rfl rfl)
theorem dX0_sell_49 : decode cX0_sell 49 = .ok (.dup, 1) := dk_89 (dk_at dksX0_sell_2 3 rfl rfl)
theorem dX0_sell_50 : decode cX0_sell 50 = .ok (.getfield 103, 3) := dk_180 0 103 (dk_at dksX0_sell_2 4 rfl rfl)
theorem dX0_sell_53 : decode cX0_sell 53 = .ok (.iconst 1, 1) := dk_4 (dk_at dksX0_sell_2 7 rfl rfl)
theorem dX0_sell_54 : decode cX0_sell 54 = .ok (.iload_n 2, 1) := dk_28 (dk_at dksX0_sell_2 8 rfl rfl)
theorem dX0_sell_55 : decode cX0_sell 55 = .ok (.ishl, 1) := dk_120 (dk_at dksX0_sell_2 9 rfl rfl)
theorem dX0_sell_56 : decode cX0_sell 56 = .ok (.ior, 1) := dk_128 (dk_at dksX0_sell_2 10 rfl rfl)
theorem dX0_sell_57 : decode cX0_sell 57 = .ok (.putfield 103, 3) := dk_181 0 103 (dk_at dksX0_sell_2 11 rfl rfl)
theorem dX0_sell_60 : decode cX0_sell 60 = .ok (.aload_n 0, 1) := dk_42 (dk_at dksX0_sell_2 14 rfl rfl)
theorem dX0_sell_61 : decode cX0_sell 61 = .ok (.getfield 33, 3) := dk_180 0 33 (dk_at dksX0_sell_2 15 rfl rfl)
theorem dX0_sell_64 : decode cX0_sell 64 = .ok (.dup, 1) := dk_89 (dk_at dksX0_sell_2 18 rfl rfl)
theorem dX0_sell_65 : decode cX0_sell 65 = .ok (.getfield 92, 3) := dk_180 0 92 (dk_at dksX0_sell_2 19 rfl rfl)
theorem dX0_sell_68 : decode cX0_sell 68 = .ok (.aload_n 0, 1) := dk_42 (dk_at dksX0_sell_2 22 rfl rfl)
theorem dX0_sell_69 : decode cX0_sell 69 = .ok (.getfield 50, 3) := dk_180 0 50 (dk_at dksX0_sell_3 0 rfl rfl)
theorem dX0_sell_72 : decode cX0_sell 72 = .ok (.iload_n 2, 1) := dk_28 (dk_at dksX0_sell_3 3 rfl rfl)
theorem dX0_sell_73 : decode cX0_sell 73 = .ok (.aaload, 1) := dk_50 (dk_at dksX0_sell_3 4 rfl rfl)
theorem dX0_sell_74 : decode cX0_sell 74 = .ok (.getfield 151, 3) := dk_180 0 151 (dk_at dksX0_sell_3 5 rfl rfl)
theorem dX0_sell_77 : decode cX0_sell 77 = .ok (.iadd, 1) := dk_96 (dk_at dksX0_sell_3 8 rfl rfl)
theorem dX0_sell_78 : decode cX0_sell 78 = .ok (.putfield 92, 3) := dk_181 0 92 (dk_at dksX0_sell_3 9 rfl rfl)
theorem dX0_sell_81 : decode cX0_sell 81 = .ok (.aload_n 0, 1) := dk_42 (dk_at dksX0_sell_3 12 rfl rfl)
theorem dX0_sell_82 : decode cX0_sell 82 = .ok (.getfield 33, 3) := dk_180 0 33 (dk_at dksX0_sell_3 13 rfl rfl)
theorem dX0_sell_85 : decode cX0_sell 85 = .ok (.getfield 92, 3) := dk_180 0 92 (dk_at dksX0_sell_3 16 rfl rfl)
theorem dX0_sell_88 : decode cX0_sell 88 = .ok (.ireturn, 1) := dk_172 (dk_at dksX0_sell_3 19 rfl rfl)
abbrev cX0_sale : ByteArray := prog_1_method_38_code
def yX0_sale : MethodName := ⟨RX0, "sale", "(I)I"⟩
def dkwX0_sale_2 : List UInt8 := [167, 0, 12, 42, 180, 0, 238, 27, 16, 10, 100, 46, 172]
abbrev dktX0_sale_2 : List UInt8 := dkwX0_sale_2 ++ []
def dkwX0_sale_1 : List UInt8 := [154, 0, 5, 2, 172, 42, 42, 180, 0, 33, 182, 0, 245, 87, 27, 154, 0, 10, 42, 180, 0, 232]
abbrev dktX0_sale_1 : List UInt8 := dkwX0_sale_1 ++ dktX0_sale_2
def dkwX0_sale_0 : List UInt8 := [27, 153, 0, 26, 27, 133, 20, 0, 156, 16, 10, 42, 180, 0, 58, 96, 4, 100, 133, 184, 0, 3]
abbrev dktX0_sale_0 : List UInt8 := dkwX0_sale_0 ++ dktX0_sale_1
theorem dksX0_sale_0 : cX0_sale.data.toList.drop 0 = dktX0_sale_0 := by decide +kernel
theorem dksX0_sale_1 : cX0_sale.data.toList.drop 22 = dktX0_sale_1 := dk_seg dksX0_sale_0 22 rfl rfl
theorem dksX0_sale_2 : cX0_sale.data.toList.drop 44 = dktX0_sale_2 := dk_seg dksX0_sale_1 22 rfl rfl
theorem dX0_sale_0 : decode cX0_sale 0 = .ok (.iload_n 1, 1) := dk_27 (dk_at dksX0_sale_0 0 rfl rfl)
theorem dX0_sale_1 : decode cX0_sale 1 = .ok (.ifCond .eq 26, 3) := dk_153 0 26 (dk_at dksX0_sale_0 1 rfl rfl)
theorem dX0_sale_4 : decode cX0_sale 4 = .ok (.iload_n 1, 1) := dk_27 (dk_at dksX0_sale_0 4 rfl rfl)
theorem dX0_sale_5 : decode cX0_sale 5 = .ok (.i2l, 1) := dk_133 (dk_at dksX0_sale_0 5 rfl rfl)
theorem dX0_sale_6 : decode cX0_sale 6 = .ok (.ldc2_w 156, 3) := dk_20 0 156 (dk_at dksX0_sale_0 6 rfl rfl)
theorem dX0_sale_9 : decode cX0_sale 9 = .ok (.bipush 10, 2) := dk_16 10 (dk_at dksX0_sale_0 9 rfl rfl)
theorem dX0_sale_11 : decode cX0_sale 11 = .ok (.aload_n 0, 1) := dk_42 (dk_at dksX0_sale_0 11 rfl rfl)
theorem dX0_sale_12 : decode cX0_sale 12 = .ok (.getfield 58, 3) := dk_180 0 58 (dk_at dksX0_sale_0 12 rfl rfl)
theorem dX0_sale_15 : decode cX0_sale 15 = .ok (.iadd, 1) := dk_96 (dk_at dksX0_sale_0 15 rfl rfl)
theorem dX0_sale_16 : decode cX0_sale 16 = .ok (.iconst 1, 1) := dk_4 (dk_at dksX0_sale_0 16 rfl rfl)
theorem dX0_sale_17 : decode cX0_sale 17 = .ok (.isub, 1) := dk_100 (dk_at dksX0_sale_0 17 rfl rfl)
theorem dX0_sale_18 : decode cX0_sale 18 = .ok (.i2l, 1) := dk_133 (dk_at dksX0_sale_0 18 rfl rfl)
theorem dX0_sale_19 : decode cX0_sale 19 = .ok (.invokestatic 3, 3) := dk_184 0 3 (dk_at dksX0_sale_0 19 rfl rfl)
theorem dX0_sale_22 : decode cX0_sale 22 = .ok (.ifCond .ne 5, 3) := dk_154 0 5 (dk_at dksX0_sale_1 0 rfl rfl)
theorem dX0_sale_25 : decode cX0_sale 25 = .ok (.iconst (-1), 1) := dk_2 (dk_at dksX0_sale_1 3 rfl rfl)
theorem dX0_sale_26 : decode cX0_sale 26 = .ok (.ireturn, 1) := dk_172 (dk_at dksX0_sale_1 4 rfl rfl)
theorem dX0_sale_27 : decode cX0_sale 27 = .ok (.aload_n 0, 1) := dk_42 (dk_at dksX0_sale_1 5 rfl rfl)
theorem dX0_sale_28 : decode cX0_sale 28 = .ok (.aload_n 0, 1) := dk_42 (dk_at dksX0_sale_1 6 rfl rfl)
theorem dX0_sale_29 : decode cX0_sale 29 = .ok (.getfield 33, 3) := dk_180 0 33 (dk_at dksX0_sale_1 7 rfl rfl)
theorem dX0_sale_32 : decode cX0_sale 32 = .ok (.invokevirtual 245, 3) := dk_182 0 245 (dk_at dksX0_sale_1 10 rfl rfl)
theorem dX0_sale_35 : decode cX0_sale 35 = .ok (.pop, 1) := dk_87 (dk_at dksX0_sale_1 13 rfl rfl)
theorem dX0_sale_36 : decode cX0_sale 36 = .ok (.iload_n 1, 1) := dk_27 (dk_at dksX0_sale_1 14 rfl rfl)
theorem dX0_sale_37 : decode cX0_sale 37 = .ok (.ifCond .ne 10, 3) := dk_154 0 10 (dk_at dksX0_sale_1 15 rfl rfl)
theorem dX0_sale_40 : decode cX0_sale 40 = .ok (.aload_n 0, 1) := dk_42 (dk_at dksX0_sale_1 18 rfl rfl)
theorem dX0_sale_41 : decode cX0_sale 41 = .ok (.getfield 232, 3) := dk_180 0 232 (dk_at dksX0_sale_1 19 rfl rfl)
theorem dX0_sale_44 : decode cX0_sale 44 = .ok (.goto 12, 3) := dk_167 0 12 (dk_at dksX0_sale_2 0 rfl rfl)
theorem dX0_sale_47 : decode cX0_sale 47 = .ok (.aload_n 0, 1) := dk_42 (dk_at dksX0_sale_2 3 rfl rfl)
theorem dX0_sale_48 : decode cX0_sale 48 = .ok (.getfield 238, 3) := dk_180 0 238 (dk_at dksX0_sale_2 4 rfl rfl)
theorem dX0_sale_51 : decode cX0_sale 51 = .ok (.iload_n 1, 1) := dk_27 (dk_at dksX0_sale_2 7 rfl rfl)
theorem dX0_sale_52 : decode cX0_sale 52 = .ok (.bipush 10, 2) := dk_16 10 (dk_at dksX0_sale_2 8 rfl rfl)
theorem dX0_sale_54 : decode cX0_sale 54 = .ok (.isub, 1) := dk_100 (dk_at dksX0_sale_2 10 rfl rfl)
theorem dX0_sale_55 : decode cX0_sale 55 = .ok (.iaload, 1) := dk_46 (dk_at dksX0_sale_2 11 rfl rfl)
theorem dX0_sale_56 : decode cX0_sale 56 = .ok (.ireturn, 1) := dk_172 (dk_at dksX0_sale_2 12 rfl rfl)
abbrev cX0_saleOf : ByteArray := prog_1_method_37_code
def yX0_saleOf : MethodName := ⟨RX0, "saleOf", "(LEchoPens$Farm;)I"⟩
def dkwX0_saleOf_0 : List UInt8 := [42, 16, 252, 181, 0, 232, 42, 43, 3, 3, 3, 182, 0, 241, 42, 180, 0, 232, 172]
abbrev dktX0_saleOf_0 : List UInt8 := dkwX0_saleOf_0 ++ []
theorem dksX0_saleOf_0 : cX0_saleOf.data.toList.drop 0 = dktX0_saleOf_0 := by decide +kernel
theorem dX0_saleOf_0 : decode cX0_saleOf 0 = .ok (.aload_n 0, 1) := dk_42 (dk_at dksX0_saleOf_0 0 rfl rfl)
theorem dX0_saleOf_1 : decode cX0_saleOf 1 = .ok (.bipush (-4), 2) := dk_16 252 (dk_at dksX0_saleOf_0 1 rfl rfl)
theorem dX0_saleOf_3 : decode cX0_saleOf 3 = .ok (.putfield 232, 3) := dk_181 0 232 (dk_at dksX0_saleOf_0 3 rfl rfl)
theorem dX0_saleOf_6 : decode cX0_saleOf 6 = .ok (.aload_n 0, 1) := dk_42 (dk_at dksX0_saleOf_0 6 rfl rfl)
theorem dX0_saleOf_7 : decode cX0_saleOf 7 = .ok (.aload_n 1, 1) := dk_43 (dk_at dksX0_saleOf_0 7 rfl rfl)
theorem dX0_saleOf_8 : decode cX0_saleOf 8 = .ok (.iconst 0, 1) := dk_3 (dk_at dksX0_saleOf_0 8 rfl rfl)
theorem dX0_saleOf_9 : decode cX0_saleOf 9 = .ok (.iconst 0, 1) := dk_3 (dk_at dksX0_saleOf_0 9 rfl rfl)
theorem dX0_saleOf_10 : decode cX0_saleOf 10 = .ok (.iconst 0, 1) := dk_3 (dk_at dksX0_saleOf_0 10 rfl rfl)
theorem dX0_saleOf_11 : decode cX0_saleOf 11 = .ok (.invokevirtual 241, 3) := dk_182 0 241 (dk_at dksX0_saleOf_0 11 rfl rfl)
theorem dX0_saleOf_14 : decode cX0_saleOf 14 = .ok (.aload_n 0, 1) := dk_42 (dk_at dksX0_saleOf_0 14 rfl rfl)
theorem dX0_saleOf_15 : decode cX0_saleOf 15 = .ok (.getfield 232, 3) := dk_180 0 232 (dk_at dksX0_saleOf_0 15 rfl rfl)
theorem dX0_saleOf_18 : decode cX0_saleOf 18 = .ok (.ireturn, 1) := dk_172 (dk_at dksX0_saleOf_0 18 rfl rfl)
abbrev cX0_sells : ByteArray := prog_1_method_36_code
def yX0_sells : MethodName := ⟨RX0, "sells", "(LEchoPens$Farm;III)V"⟩
def dkwX0_sells_5 : List UInt8 := [182, 0, 241, 132, 5, 1, 167, 255, 190, 177]
abbrev dktX0_sells_5 : List UInt8 := dkwX0_sells_5 ++ []
def dkwX0_sells_4 : List UInt8 := [79, 42, 43, 28, 4, 96, 29, 4, 21, 5, 120, 128, 21, 4, 42, 180, 0, 50, 28, 50, 180, 0, 151, 96]
abbrev dktX0_sells_4 : List UInt8 := dkwX0_sells_4 ++ dktX0_sells_5
def dkwX0_sells_3 : List UInt8 := [184, 0, 209, 154, 0, 48, 42, 43, 21, 5, 28, 182, 0, 217, 153, 0, 37, 42, 180, 0, 235, 28, 21, 5]
abbrev dktX0_sells_3 : List UInt8 := dkwX0_sells_3 ++ dktX0_sells_4
def dkwX0_sells_2 : List UInt8 := [28, 4, 96, 29, 21, 4, 182, 0, 241, 3, 54, 5, 21, 5, 43, 180, 0, 86, 162, 0, 63, 29, 21, 5]
abbrev dktX0_sells_2 : List UInt8 := dkwX0_sells_2 ++ dktX0_sells_3
def dkwX0_sells_1 : List UInt8 := [180, 0, 235, 3, 42, 180, 0, 238, 3, 7, 184, 0, 17, 177, 42, 180, 0, 235, 28, 16, 252, 79, 42, 43]
abbrev dktX0_sells_1 : List UInt8 := dkwX0_sells_1 ++ dktX0_sells_2
def dkwX0_sells_0 : List UInt8 := [28, 42, 180, 0, 58, 160, 0, 33, 21, 4, 42, 180, 0, 232, 164, 0, 23, 42, 21, 4, 181, 0, 232, 42]
abbrev dktX0_sells_0 : List UInt8 := dkwX0_sells_0 ++ dktX0_sells_1
theorem dksX0_sells_0 : cX0_sells.data.toList.drop 0 = dktX0_sells_0 := by decide +kernel
theorem dksX0_sells_1 : cX0_sells.data.toList.drop 24 = dktX0_sells_1 := dk_seg dksX0_sells_0 24 rfl rfl
theorem dksX0_sells_2 : cX0_sells.data.toList.drop 48 = dktX0_sells_2 := dk_seg dksX0_sells_1 24 rfl rfl
theorem dksX0_sells_3 : cX0_sells.data.toList.drop 72 = dktX0_sells_3 := dk_seg dksX0_sells_2 24 rfl rfl
theorem dksX0_sells_4 : cX0_sells.data.toList.drop 96 = dktX0_sells_4 := dk_seg dksX0_sells_3 24 rfl rfl
theorem dksX0_sells_5 : cX0_sells.data.toList.drop 120 = dktX0_sells_5 := dk_seg dksX0_sells_4 24 rfl rfl
theorem dX0_sells_0 : decode cX0_sells 0 = .ok (.iload_n 2, 1) := dk_28 (dk_at dksX0_sells_0 0 rfl rfl)
theorem dX0_sells_1 : decode cX0_sells 1 = .ok (.aload_n 0, 1) := dk_42 (dk_at dksX0_sells_0 1 rfl rfl)
theorem dX0_sells_2 : decode cX0_sells 2 = .ok (.getfield 58, 3) := dk_180 0 58 (dk_at dksX0_sells_0 2 rfl rfl)
theorem dX0_sells_5 : decode cX0_sells 5 = .ok (.if_icmp .ne 33, 3) := dk_160 0 33 (dk_at dksX0_sells_0 5 rfl rfl)
theorem dX0_sells_8 : decode cX0_sells 8 = .ok (.iload 4, 2) := dk_21 4 (dk_at dksX0_sells_0 8 rfl rfl)
theorem dX0_sells_10 : decode cX0_sells 10 = .ok (.aload_n 0, 1) := dk_42 (dk_at dksX0_sells_0 10 rfl rfl)
theorem dX0_sells_11 : decode cX0_sells 11 = .ok (.getfield 232, 3) := dk_180 0 232 (dk_at dksX0_sells_0 11 rfl rfl)
theorem dX0_sells_14 : decode cX0_sells 14 = .ok (.if_icmp .le 23, 3) := dk_164 0 23 (dk_at dksX0_sells_0 14 rfl rfl)
theorem dX0_sells_17 : decode cX0_sells 17 = .ok (.aload_n 0, 1) := dk_42 (dk_at dksX0_sells_0 17 rfl rfl)
theorem dX0_sells_18 : decode cX0_sells 18 = .ok (.iload 4, 2) := dk_21 4 (dk_at dksX0_sells_0 18 rfl rfl)
theorem dX0_sells_20 : decode cX0_sells 20 = .ok (.putfield 232, 3) := dk_181 0 232 (dk_at dksX0_sells_0 20 rfl rfl)
theorem dX0_sells_23 : decode cX0_sells 23 = .ok (.aload_n 0, 1) := dk_42 (dk_at dksX0_sells_0 23 rfl rfl)
theorem dX0_sells_24 : decode cX0_sells 24 = .ok (.getfield 235, 3) := dk_180 0 235 (dk_at dksX0_sells_1 0 rfl rfl)
theorem dX0_sells_27 : decode cX0_sells 27 = .ok (.iconst 0, 1) := dk_3 (dk_at dksX0_sells_1 3 rfl rfl)
theorem dX0_sells_28 : decode cX0_sells 28 = .ok (.aload_n 0, 1) := dk_42 (dk_at dksX0_sells_1 4 rfl rfl)
theorem dX0_sells_29 : decode cX0_sells 29 = .ok (.getfield 238, 3) := dk_180 0 238 (dk_at dksX0_sells_1 5 rfl rfl)
theorem dX0_sells_32 : decode cX0_sells 32 = .ok (.iconst 0, 1) := dk_3 (dk_at dksX0_sells_1 8 rfl rfl)
theorem dX0_sells_33 : decode cX0_sells 33 = .ok (.iconst 4, 1) := dk_7 (dk_at dksX0_sells_1 9 rfl rfl)
theorem dX0_sells_34 : decode cX0_sells 34 = .ok (.invokestatic 17, 3) := dk_184 0 17 (dk_at dksX0_sells_1 10 rfl rfl)
theorem dX0_sells_37 : decode cX0_sells 37 = .ok (.return_, 1) := dk_177 (dk_at dksX0_sells_1 13 rfl rfl)
theorem dX0_sells_38 : decode cX0_sells 38 = .ok (.aload_n 0, 1) := dk_42 (dk_at dksX0_sells_1 14 rfl rfl)
theorem dX0_sells_39 : decode cX0_sells 39 = .ok (.getfield 235, 3) := dk_180 0 235 (dk_at dksX0_sells_1 15 rfl rfl)
theorem dX0_sells_42 : decode cX0_sells 42 = .ok (.iload_n 2, 1) := dk_28 (dk_at dksX0_sells_1 18 rfl rfl)
theorem dX0_sells_43 : decode cX0_sells 43 = .ok (.bipush (-4), 2) := dk_16 252 (dk_at dksX0_sells_1 19 rfl rfl)
theorem dX0_sells_45 : decode cX0_sells 45 = .ok (.iastore, 1) := dk_79 (dk_at dksX0_sells_1 21 rfl rfl)
theorem dX0_sells_46 : decode cX0_sells 46 = .ok (.aload_n 0, 1) := dk_42 (dk_at dksX0_sells_1 22 rfl rfl)
theorem dX0_sells_47 : decode cX0_sells 47 = .ok (.aload_n 1, 1) := dk_43 (dk_at dksX0_sells_1 23 rfl rfl)
theorem dX0_sells_48 : decode cX0_sells 48 = .ok (.iload_n 2, 1) := dk_28 (dk_at dksX0_sells_2 0 rfl rfl)
theorem dX0_sells_49 : decode cX0_sells 49 = .ok (.iconst 1, 1) := dk_4 (dk_at dksX0_sells_2 1 rfl rfl)
theorem dX0_sells_50 : decode cX0_sells 50 = .ok (.iadd, 1) := dk_96 (dk_at dksX0_sells_2 2 rfl rfl)
theorem dX0_sells_51 : decode cX0_sells 51 = .ok (.iload_n 3, 1) := dk_29 (dk_at dksX0_sells_2 3 rfl rfl)
theorem dX0_sells_52 : decode cX0_sells 52 = .ok (.iload 4, 2) := dk_21 4 (dk_at dksX0_sells_2 4 rfl rfl)
theorem dX0_sells_54 : decode cX0_sells 54 = .ok (.invokevirtual 241, 3) := dk_182 0 241 (dk_at dksX0_sells_2 6 rfl rfl)
theorem dX0_sells_57 : decode cX0_sells 57 = .ok (.iconst 0, 1) := dk_3 (dk_at dksX0_sells_2 9 rfl rfl)
theorem dX0_sells_58 : decode cX0_sells 58 = .ok (.istore 5, 2) := dk_54 5 (dk_at dksX0_sells_2 10 rfl rfl)
theorem dX0_sells_60 : decode cX0_sells 60 = .ok (.iload 5, 2) := dk_21 5 (dk_at dksX0_sells_2 12 rfl rfl)
theorem dX0_sells_62 : decode cX0_sells 62 = .ok (.aload_n 1, 1) := dk_43 (dk_at dksX0_sells_2 14 rfl rfl)
theorem dX0_sells_63 : decode cX0_sells 63 = .ok (.getfield 86, 3) := dk_180 0 86 (dk_at dksX0_sells_2 15 rfl rfl)
theorem dX0_sells_66 : decode cX0_sells 66 = .ok (.if_icmp .ge 63, 3) := dk_162 0 63 (dk_at dksX0_sells_2 18 rfl rfl)
theorem dX0_sells_69 : decode cX0_sells 69 = .ok (.iload_n 3, 1) := dk_29 (dk_at dksX0_sells_2 21 rfl rfl)
theorem dX0_sells_70 : decode cX0_sells 70 = .ok (.iload 5, 2) := dk_21 5 (dk_at dksX0_sells_2 22 rfl rfl)
theorem dX0_sells_72 : decode cX0_sells 72 = .ok (.invokestatic 209, 3) := dk_184 0 209 (dk_at dksX0_sells_3 0 rfl rfl)
theorem dX0_sells_75 : decode cX0_sells 75 = .ok (.ifCond .ne 48, 3) := dk_154 0 48 (dk_at dksX0_sells_3 3 rfl rfl)
theorem dX0_sells_78 : decode cX0_sells 78 = .ok (.aload_n 0, 1) := dk_42 (dk_at dksX0_sells_3 6 rfl rfl)
theorem dX0_sells_79 : decode cX0_sells 79 = .ok (.aload_n 1, 1) := dk_43 (dk_at dksX0_sells_3 7 rfl rfl)
theorem dX0_sells_80 : decode cX0_sells 80 = .ok (.iload 5, 2) := dk_21 5 (dk_at dksX0_sells_3 8 rfl rfl)
theorem dX0_sells_82 : decode cX0_sells 82 = .ok (.iload_n 2, 1) := dk_28 (dk_at dksX0_sells_3 10 rfl rfl)
theorem dX0_sells_83 : decode cX0_sells 83 = .ok (.invokevirtual 217, 3) := dk_182 0 217 (dk_at dksX0_sells_3 11 rfl rfl)
theorem dX0_sells_86 : decode cX0_sells 86 = .ok (.ifCond .eq 37, 3) := dk_153 0 37 (dk_at dksX0_sells_3 14 rfl rfl)
theorem dX0_sells_89 : decode cX0_sells 89 = .ok (.aload_n 0, 1) := dk_42 (dk_at dksX0_sells_3 17 rfl rfl)
theorem dX0_sells_90 : decode cX0_sells 90 = .ok (.getfield 235, 3) := dk_180 0 235 (dk_at dksX0_sells_3 18 rfl rfl)
theorem dX0_sells_93 : decode cX0_sells 93 = .ok (.iload_n 2, 1) := dk_28 (dk_at dksX0_sells_3 21 rfl rfl)
theorem dX0_sells_94 : decode cX0_sells 94 = .ok (.iload 5, 2) := dk_21 5 (dk_at dksX0_sells_3 22 rfl rfl)
theorem dX0_sells_96 : decode cX0_sells 96 = .ok (.iastore, 1) := dk_79 (dk_at dksX0_sells_4 0 rfl rfl)
theorem dX0_sells_97 : decode cX0_sells 97 = .ok (.aload_n 0, 1) := dk_42 (dk_at dksX0_sells_4 1 rfl rfl)
theorem dX0_sells_98 : decode cX0_sells 98 = .ok (.aload_n 1, 1) := dk_43 (dk_at dksX0_sells_4 2 rfl rfl)
theorem dX0_sells_99 : decode cX0_sells 99 = .ok (.iload_n 2, 1) := dk_28 (dk_at dksX0_sells_4 3 rfl rfl)
theorem dX0_sells_100 : decode cX0_sells 100 = .ok (.iconst 1, 1) := dk_4 (dk_at dksX0_sells_4 4 rfl rfl)
theorem dX0_sells_101 : decode cX0_sells 101 = .ok (.iadd, 1) := dk_96 (dk_at dksX0_sells_4 5 rfl rfl)
theorem dX0_sells_102 : decode cX0_sells 102 = .ok (.iload_n 3, 1) := dk_29 (dk_at dksX0_sells_4 6 rfl rfl)
theorem dX0_sells_103 : decode cX0_sells 103 = .ok (.iconst 1, 1) := dk_4 (dk_at dksX0_sells_4 7 rfl rfl)
theorem dX0_sells_104 : decode cX0_sells 104 = .ok (.iload 5, 2) := dk_21 5 (dk_at dksX0_sells_4 8 rfl rfl)
theorem dX0_sells_106 : decode cX0_sells 106 = .ok (.ishl, 1) := dk_120 (dk_at dksX0_sells_4 10 rfl rfl)
theorem dX0_sells_107 : decode cX0_sells 107 = .ok (.ior, 1) := dk_128 (dk_at dksX0_sells_4 11 rfl rfl)
theorem dX0_sells_108 : decode cX0_sells 108 = .ok (.iload 4, 2) := dk_21 4 (dk_at dksX0_sells_4 12 rfl rfl)
theorem dX0_sells_110 : decode cX0_sells 110 = .ok (.aload_n 0, 1) := dk_42 (dk_at dksX0_sells_4 14 rfl rfl)
theorem dX0_sells_111 : decode cX0_sells 111 = .ok (.getfield 50, 3) := dk_180 0 50 (dk_at dksX0_sells_4 15 rfl rfl)
theorem dX0_sells_114 : decode cX0_sells 114 = .ok (.iload_n 2, 1) := dk_28 (dk_at dksX0_sells_4 18 rfl rfl)
theorem dX0_sells_115 : decode cX0_sells 115 = .ok (.aaload, 1) := dk_50 (dk_at dksX0_sells_4 19 rfl rfl)
theorem dX0_sells_116 : decode cX0_sells 116 = .ok (.getfield 151, 3) := dk_180 0 151 (dk_at dksX0_sells_4 20 rfl rfl)
theorem dX0_sells_119 : decode cX0_sells 119 = .ok (.iadd, 1) := dk_96 (dk_at dksX0_sells_4 23 rfl rfl)
theorem dX0_sells_120 : decode cX0_sells 120 = .ok (.invokevirtual 241, 3) := dk_182 0 241 (dk_at dksX0_sells_5 0 rfl rfl)
theorem dX0_sells_123 : decode cX0_sells 123 = .ok (.iinc 5 1, 3) := dk_132 5 1 (dk_at dksX0_sells_5 3 rfl rfl)
theorem dX0_sells_126 : decode cX0_sells 126 = .ok (.goto (-66), 3) := dk_167 255 190 (dk_at dksX0_sells_5 6 rfl rfl)
theorem dX0_sells_129 : decode cX0_sells 129 = .ok (.return_, 1) := dk_177 (dk_at dksX0_sells_5 9 rfl rfl)
abbrev cX0_best : ByteArray := prog_1_method_42_code
def yX0_best : MethodName := ⟨RX0, "best", "(II)I"⟩
def dkwX0_best_2 : List UInt8 := [182, 1, 25, 28, 154, 0, 10, 42, 180, 0, 252, 167, 0, 12, 42, 180, 0, 255, 28, 16, 10, 100, 46, 172]
abbrev dktX0_best_2 : List UInt8 := dkwX0_best_2 ++ []
def dkwX0_best_1 : List UInt8 := [180, 0, 33, 180, 0, 86, 96, 4, 100, 133, 184, 0, 3, 154, 0, 5, 2, 172, 42, 27, 3, 3]
abbrev dktX0_best_1 : List UInt8 := dkwX0_best_1 ++ dktX0_best_2
def dkwX0_best_0 : List UInt8 := [27, 133, 9, 20, 1, 23, 184, 0, 3, 153, 0, 31, 28, 153, 0, 29, 28, 133, 20, 0, 156, 16, 10, 42]
abbrev dktX0_best_0 : List UInt8 := dkwX0_best_0 ++ dktX0_best_1
theorem dksX0_best_0 : cX0_best.data.toList.drop 0 = dktX0_best_0 := by decide +kernel
theorem dksX0_best_1 : cX0_best.data.toList.drop 24 = dktX0_best_1 := dk_seg dksX0_best_0 24 rfl rfl
theorem dksX0_best_2 : cX0_best.data.toList.drop 46 = dktX0_best_2 := dk_seg dksX0_best_1 22 rfl rfl
theorem dX0_best_0 : decode cX0_best 0 = .ok (.iload_n 1, 1) := dk_27 (dk_at dksX0_best_0 0 rfl rfl)
theorem dX0_best_1 : decode cX0_best 1 = .ok (.i2l, 1) := dk_133 (dk_at dksX0_best_0 1 rfl rfl)
theorem dX0_best_2 : decode cX0_best 2 = .ok (.lconst 0, 1) := dk_9 (dk_at dksX0_best_0 2 rfl rfl)
theorem dX0_best_3 : decode cX0_best 3 = .ok (.ldc2_w 279, 3) := dk_20 1 23 (dk_at dksX0_best_0 3 rfl rfl)
theorem dX0_best_6 : decode cX0_best 6 = .ok (.invokestatic 3, 3) := dk_184 0 3 (dk_at dksX0_best_0 6 rfl rfl)
theorem dX0_best_9 : decode cX0_best 9 = .ok (.ifCond .eq 31, 3) := dk_153 0 31 (dk_at dksX0_best_0 9 rfl rfl)
theorem dX0_best_12 : decode cX0_best 12 = .ok (.iload_n 2, 1) := dk_28 (dk_at dksX0_best_0 12 rfl rfl)
theorem dX0_best_13 : decode cX0_best 13 = .ok (.ifCond .eq 29, 3) := dk_153 0 29 (dk_at dksX0_best_0 13 rfl rfl)
theorem dX0_best_16 : decode cX0_best 16 = .ok (.iload_n 2, 1) := dk_28 (dk_at dksX0_best_0 16 rfl rfl)
theorem dX0_best_17 : decode cX0_best 17 = .ok (.i2l, 1) := dk_133 (dk_at dksX0_best_0 17 rfl rfl)
theorem dX0_best_18 : decode cX0_best 18 = .ok (.ldc2_w 156, 3) := dk_20 0 156 (dk_at dksX0_best_0 18 rfl rfl)
theorem dX0_best_21 : decode cX0_best 21 = .ok (.bipush 10, 2) := dk_16 10 (dk_at dksX0_best_0 21 rfl rfl)
theorem dX0_best_23 : decode cX0_best 23 = .ok (.aload_n 0, 1) := dk_42 (dk_at dksX0_best_0 23 rfl rfl)
theorem dX0_best_24 : decode cX0_best 24 = .ok (.getfield 33, 3) := dk_180 0 33 (dk_at dksX0_best_1 0 rfl rfl)
theorem dX0_best_27 : decode cX0_best 27 = .ok (.getfield 86, 3) := dk_180 0 86 (dk_at dksX0_best_1 3 rfl rfl)
theorem dX0_best_30 : decode cX0_best 30 = .ok (.iadd, 1) := dk_96 (dk_at dksX0_best_1 6 rfl rfl)
theorem dX0_best_31 : decode cX0_best 31 = .ok (.iconst 1, 1) := dk_4 (dk_at dksX0_best_1 7 rfl rfl)
theorem dX0_best_32 : decode cX0_best 32 = .ok (.isub, 1) := dk_100 (dk_at dksX0_best_1 8 rfl rfl)
theorem dX0_best_33 : decode cX0_best 33 = .ok (.i2l, 1) := dk_133 (dk_at dksX0_best_1 9 rfl rfl)
theorem dX0_best_34 : decode cX0_best 34 = .ok (.invokestatic 3, 3) := dk_184 0 3 (dk_at dksX0_best_1 10 rfl rfl)
theorem dX0_best_37 : decode cX0_best 37 = .ok (.ifCond .ne 5, 3) := dk_154 0 5 (dk_at dksX0_best_1 13 rfl rfl)
theorem dX0_best_40 : decode cX0_best 40 = .ok (.iconst (-1), 1) := dk_2 (dk_at dksX0_best_1 16 rfl rfl)
theorem dX0_best_41 : decode cX0_best 41 = .ok (.ireturn, 1) := dk_172 (dk_at dksX0_best_1 17 rfl rfl)
theorem dX0_best_42 : decode cX0_best 42 = .ok (.aload_n 0, 1) := dk_42 (dk_at dksX0_best_1 18 rfl rfl)
theorem dX0_best_43 : decode cX0_best 43 = .ok (.iload_n 1, 1) := dk_27 (dk_at dksX0_best_1 19 rfl rfl)
theorem dX0_best_44 : decode cX0_best 44 = .ok (.iconst 0, 1) := dk_3 (dk_at dksX0_best_1 20 rfl rfl)
theorem dX0_best_45 : decode cX0_best 45 = .ok (.iconst 0, 1) := dk_3 (dk_at dksX0_best_1 21 rfl rfl)
theorem dX0_best_46 : decode cX0_best 46 = .ok (.invokevirtual 281, 3) := dk_182 1 25 (dk_at dksX0_best_2 0 rfl rfl)
theorem dX0_best_49 : decode cX0_best 49 = .ok (.iload_n 2, 1) := dk_28 (dk_at dksX0_best_2 3 rfl rfl)
theorem dX0_best_50 : decode cX0_best 50 = .ok (.ifCond .ne 10, 3) := dk_154 0 10 (dk_at dksX0_best_2 4 rfl rfl)
theorem dX0_best_53 : decode cX0_best 53 = .ok (.aload_n 0, 1) := dk_42 (dk_at dksX0_best_2 7 rfl rfl)
theorem dX0_best_54 : decode cX0_best 54 = .ok (.getfield 252, 3) := dk_180 0 252 (dk_at dksX0_best_2 8 rfl rfl)
theorem dX0_best_57 : decode cX0_best 57 = .ok (.goto 12, 3) := dk_167 0 12 (dk_at dksX0_best_2 11 rfl rfl)
theorem dX0_best_60 : decode cX0_best 60 = .ok (.aload_n 0, 1) := dk_42 (dk_at dksX0_best_2 14 rfl rfl)
theorem dX0_best_61 : decode cX0_best 61 = .ok (.getfield 255, 3) := dk_180 0 255 (dk_at dksX0_best_2 15 rfl rfl)
theorem dX0_best_64 : decode cX0_best 64 = .ok (.iload_n 2, 1) := dk_28 (dk_at dksX0_best_2 18 rfl rfl)
theorem dX0_best_65 : decode cX0_best 65 = .ok (.bipush 10, 2) := dk_16 10 (dk_at dksX0_best_2 19 rfl rfl)
theorem dX0_best_67 : decode cX0_best 67 = .ok (.isub, 1) := dk_100 (dk_at dksX0_best_2 21 rfl rfl)
theorem dX0_best_68 : decode cX0_best 68 = .ok (.iaload, 1) := dk_46 (dk_at dksX0_best_2 22 rfl rfl)
theorem dX0_best_69 : decode cX0_best 69 = .ok (.ireturn, 1) := dk_172 (dk_at dksX0_best_2 23 rfl rfl)
abbrev cX0_allWays : ByteArray := prog_1_method_41_code
def yX0_allWays : MethodName := ⟨RX0, "allWays", "(III)V"⟩
def dkwX0_allWays_3 : List UInt8 := [42, 3, 27, 28, 29, 182, 1, 19, 177]
abbrev dktX0_allWays_3 : List UInt8 := dkwX0_allWays_3 ++ []
def dkwX0_allWays_2 : List UInt8 := [132, 4, 1, 167, 255, 219, 42, 180, 1, 12, 8, 3, 79, 42, 3, 181, 1, 6, 42, 16, 252, 181, 0, 252]
abbrev dktX0_allWays_2 : List UInt8 := dkwX0_allWays_2 ++ dktX0_allWays_3
def dkwX0_allWays_1 : List UInt8 := [180, 0, 128, 21, 4, 16, 252, 79, 42, 180, 1, 9, 21, 4, 3, 79, 42, 180, 1, 12, 21, 4, 3, 79]
abbrev dktX0_allWays_1 : List UInt8 := dkwX0_allWays_1 ++ dktX0_allWays_2
def dkwX0_allWays_0 : List UInt8 := [42, 180, 0, 249, 42, 180, 0, 33, 182, 0, 40, 3, 54, 4, 21, 4, 8, 162, 0, 37, 42, 180, 0, 249]
abbrev dktX0_allWays_0 : List UInt8 := dkwX0_allWays_0 ++ dktX0_allWays_1
theorem dksX0_allWays_0 : cX0_allWays.data.toList.drop 0 = dktX0_allWays_0 := by decide +kernel
theorem dksX0_allWays_1 : cX0_allWays.data.toList.drop 24 = dktX0_allWays_1 := dk_seg dksX0_allWays_0 24 rfl rfl
theorem dksX0_allWays_2 : cX0_allWays.data.toList.drop 48 = dktX0_allWays_2 := dk_seg dksX0_allWays_1 24 rfl rfl
theorem dksX0_allWays_3 : cX0_allWays.data.toList.drop 72 = dktX0_allWays_3 := dk_seg dksX0_allWays_2 24 rfl rfl
theorem dX0_allWays_0 : decode cX0_allWays 0 = .ok (.aload_n 0, 1) := dk_42 (dk_at dksX0_allWays_0 0 rfl rfl)
theorem dX0_allWays_1 : decode cX0_allWays 1 = .ok (.getfield 249, 3) := dk_180 0 249 (dk_at dksX0_allWays_0 1 rfl rfl)
theorem dX0_allWays_4 : decode cX0_allWays 4 = .ok (.aload_n 0, 1) := dk_42 (dk_at dksX0_allWays_0 4 rfl rfl)
theorem dX0_allWays_5 : decode cX0_allWays 5 = .ok (.getfield 33, 3) := dk_180 0 33 (dk_at dksX0_allWays_0 5 rfl rfl)
theorem dX0_allWays_8 : decode cX0_allWays 8 = .ok (.invokevirtual 40, 3) := dk_182 0 40 (dk_at dksX0_allWays_0 8 rfl rfl)
theorem dX0_allWays_11 : decode cX0_allWays 11 = .ok (.iconst 0, 1) := dk_3 (dk_at dksX0_allWays_0 11 rfl rfl)
theorem dX0_allWays_12 : decode cX0_allWays 12 = .ok (.istore 4, 2) := dk_54 4 (dk_at dksX0_allWays_0 12 rfl rfl)
theorem dX0_allWays_14 : decode cX0_allWays 14 = .ok (.iload 4, 2) := dk_21 4 (dk_at dksX0_allWays_0 14 rfl rfl)
theorem dX0_allWays_16 : decode cX0_allWays 16 = .ok (.iconst 5, 1) := dk_8 (dk_at dksX0_allWays_0 16 rfl rfl)
theorem dX0_allWays_17 : decode cX0_allWays 17 = .ok (.if_icmp .ge 37, 3) := dk_162 0 37 (dk_at dksX0_allWays_0 17 rfl rfl)
theorem dX0_allWays_20 : decode cX0_allWays 20 = .ok (.aload_n 0, 1) := dk_42 (dk_at dksX0_allWays_0 20 rfl rfl)
theorem dX0_allWays_21 : decode cX0_allWays 21 = .ok (.getfield 249, 3) := dk_180 0 249 (dk_at dksX0_allWays_0 21 rfl rfl)
theorem dX0_allWays_24 : decode cX0_allWays 24 = .ok (.getfield 128, 3) := dk_180 0 128 (dk_at dksX0_allWays_1 0 rfl rfl)
theorem dX0_allWays_27 : decode cX0_allWays 27 = .ok (.iload 4, 2) := dk_21 4 (dk_at dksX0_allWays_1 3 rfl rfl)
theorem dX0_allWays_29 : decode cX0_allWays 29 = .ok (.bipush (-4), 2) := dk_16 252 (dk_at dksX0_allWays_1 5 rfl rfl)
theorem dX0_allWays_31 : decode cX0_allWays 31 = .ok (.iastore, 1) := dk_79 (dk_at dksX0_allWays_1 7 rfl rfl)
theorem dX0_allWays_32 : decode cX0_allWays 32 = .ok (.aload_n 0, 1) := dk_42 (dk_at dksX0_allWays_1 8 rfl rfl)
theorem dX0_allWays_33 : decode cX0_allWays 33 = .ok (.getfield 265, 3) := dk_180 1 9 (dk_at dksX0_allWays_1 9 rfl rfl)
theorem dX0_allWays_36 : decode cX0_allWays 36 = .ok (.iload 4, 2) := dk_21 4 (dk_at dksX0_allWays_1 12 rfl rfl)
theorem dX0_allWays_38 : decode cX0_allWays 38 = .ok (.iconst 0, 1) := dk_3 (dk_at dksX0_allWays_1 14 rfl rfl)
theorem dX0_allWays_39 : decode cX0_allWays 39 = .ok (.iastore, 1) := dk_79 (dk_at dksX0_allWays_1 15 rfl rfl)
theorem dX0_allWays_40 : decode cX0_allWays 40 = .ok (.aload_n 0, 1) := dk_42 (dk_at dksX0_allWays_1 16 rfl rfl)
theorem dX0_allWays_41 : decode cX0_allWays 41 = .ok (.getfield 268, 3) := dk_180 1 12 (dk_at dksX0_allWays_1 17 rfl rfl)
theorem dX0_allWays_44 : decode cX0_allWays 44 = .ok (.iload 4, 2) := dk_21 4 (dk_at dksX0_allWays_1 20 rfl rfl)
theorem dX0_allWays_46 : decode cX0_allWays 46 = .ok (.iconst 0, 1) := dk_3 (dk_at dksX0_allWays_1 22 rfl rfl)
theorem dX0_allWays_47 : decode cX0_allWays 47 = .ok (.iastore, 1) := dk_79 (dk_at dksX0_allWays_1 23 rfl rfl)
theorem dX0_allWays_48 : decode cX0_allWays 48 = .ok (.iinc 4 1, 3) := dk_132 4 1 (dk_at dksX0_allWays_2 0 rfl rfl)
theorem dX0_allWays_51 : decode cX0_allWays 51 = .ok (.goto (-37), 3) := dk_167 255 219 (dk_at dksX0_allWays_2 3 rfl rfl)
theorem dX0_allWays_54 : decode cX0_allWays 54 = .ok (.aload_n 0, 1) := dk_42 (dk_at dksX0_allWays_2 6 rfl rfl)
theorem dX0_allWays_55 : decode cX0_allWays 55 = .ok (.getfield 268, 3) := dk_180 1 12 (dk_at dksX0_allWays_2 7 rfl rfl)
theorem dX0_allWays_58 : decode cX0_allWays 58 = .ok (.iconst 5, 1) := dk_8 (dk_at dksX0_allWays_2 10 rfl rfl)
theorem dX0_allWays_59 : decode cX0_allWays 59 = .ok (.iconst 0, 1) := dk_3 (dk_at dksX0_allWays_2 11 rfl rfl)
theorem dX0_allWays_60 : decode cX0_allWays 60 = .ok (.iastore, 1) := dk_79 (dk_at dksX0_allWays_2 12 rfl rfl)
theorem dX0_allWays_61 : decode cX0_allWays 61 = .ok (.aload_n 0, 1) := dk_42 (dk_at dksX0_allWays_2 13 rfl rfl)
theorem dX0_allWays_62 : decode cX0_allWays 62 = .ok (.iconst 0, 1) := dk_3 (dk_at dksX0_allWays_2 14 rfl rfl)
theorem dX0_allWays_63 : decode cX0_allWays 63 = .ok (.putfield 262, 3) := dk_181 1 6 (dk_at dksX0_allWays_2 15 rfl rfl)
theorem dX0_allWays_66 : decode cX0_allWays 66 = .ok (.aload_n 0, 1) := dk_42 (dk_at dksX0_allWays_2 18 rfl rfl)
theorem dX0_allWays_67 : decode cX0_allWays 67 = .ok (.bipush (-4), 2) := dk_16 252 (dk_at dksX0_allWays_2 19 rfl rfl)
theorem dX0_allWays_69 : decode cX0_allWays 69 = .ok (.putfield 252, 3) := dk_181 0 252 (dk_at dksX0_allWays_2 21 rfl rfl)
theorem dX0_allWays_72 : decode cX0_allWays 72 = .ok (.aload_n 0, 1) := dk_42 (dk_at dksX0_allWays_3 0 rfl rfl)
theorem dX0_allWays_73 : decode cX0_allWays 73 = .ok (.iconst 0, 1) := dk_3 (dk_at dksX0_allWays_3 1 rfl rfl)
theorem dX0_allWays_74 : decode cX0_allWays 74 = .ok (.iload_n 1, 1) := dk_27 (dk_at dksX0_allWays_3 2 rfl rfl)
theorem dX0_allWays_75 : decode cX0_allWays 75 = .ok (.iload_n 2, 1) := dk_28 (dk_at dksX0_allWays_3 3 rfl rfl)
theorem dX0_allWays_76 : decode cX0_allWays 76 = .ok (.iload_n 3, 1) := dk_29 (dk_at dksX0_allWays_3 4 rfl rfl)
theorem dX0_allWays_77 : decode cX0_allWays 77 = .ok (.invokevirtual 275, 3) := dk_182 1 19 (dk_at dksX0_allWays_3 5 rfl rfl)
theorem dX0_allWays_80 : decode cX0_allWays 80 = .ok (.return_, 1) := dk_177 (dk_at dksX0_allWays_3 8 rfl rfl)
abbrev cX0_ways : ByteArray := prog_1_method_40_code
def yX0_ways : MethodName := ⟨RX0, "ways", "(IIII)V"⟩
def dkwX0_ways_5 : List UInt8 := [16, 252, 79, 177]
abbrev dktX0_ways_5 : List UInt8 := dkwX0_ways_5 ++ []
def dkwX0_ways_4 : List UInt8 := [27, 4, 96, 28, 29, 21, 4, 182, 1, 19, 132, 5, 1, 167, 255, 198, 42, 180, 0, 249, 180, 0, 128, 27]
abbrev dktX0_ways_4 : List UInt8 := dkwX0_ways_4 ++ dktX0_ways_5
def dkwX0_ways_3 : List UInt8 := [42, 180, 0, 249, 21, 5, 182, 0, 166, 153, 0, 25, 42, 180, 0, 249, 180, 0, 128, 27, 21, 5, 79, 42]
abbrev dktX0_ways_3 : List UInt8 := dkwX0_ways_3 ++ dktX0_ways_4
def dkwX0_ways_2 : List UInt8 := [3, 54, 5, 21, 5, 42, 180, 0, 54, 162, 0, 55, 42, 180, 0, 249, 180, 0, 128, 27, 16, 252, 79, 42]
abbrev dktX0_ways_2 : List UInt8 := dkwX0_ways_2 ++ dktX0_ways_3
def dkwX0_ways_1 : List UInt8 := [180, 0, 33, 27, 182, 0, 191, 153, 0, 17, 42, 27, 4, 96, 28, 29, 21, 4, 182, 1, 19, 167, 0, 78]
abbrev dktX0_ways_1 : List UInt8 := dkwX0_ways_1 ++ dktX0_ways_2
def dkwX0_ways_0 : List UInt8 := [27, 42, 180, 0, 249, 180, 0, 86, 160, 0, 14, 42, 28, 29, 21, 4, 182, 1, 15, 167, 0, 103, 42]
abbrev dktX0_ways_0 : List UInt8 := dkwX0_ways_0 ++ dktX0_ways_1
theorem dksX0_ways_0 : cX0_ways.data.toList.drop 0 = dktX0_ways_0 := by decide +kernel
theorem dksX0_ways_1 : cX0_ways.data.toList.drop 23 = dktX0_ways_1 := dk_seg dksX0_ways_0 23 rfl rfl
theorem dksX0_ways_2 : cX0_ways.data.toList.drop 47 = dktX0_ways_2 := dk_seg dksX0_ways_1 24 rfl rfl
theorem dksX0_ways_3 : cX0_ways.data.toList.drop 71 = dktX0_ways_3 := dk_seg dksX0_ways_2 24 rfl rfl
theorem dksX0_ways_4 : cX0_ways.data.toList.drop 95 = dktX0_ways_4 := dk_seg dksX0_ways_3 24 rfl rfl
theorem dksX0_ways_5 : cX0_ways.data.toList.drop 119 = dktX0_ways_5 := dk_seg dksX0_ways_4 24 rfl rfl
theorem dX0_ways_0 : decode cX0_ways 0 = .ok (.iload_n 1, 1) := dk_27 (dk_at dksX0_ways_0 0 rfl rfl)
theorem dX0_ways_1 : decode cX0_ways 1 = .ok (.aload_n 0, 1) := dk_42 (dk_at dksX0_ways_0 1 rfl rfl)
theorem dX0_ways_2 : decode cX0_ways 2 = .ok (.getfield 249, 3) := dk_180 0 249 (dk_at dksX0_ways_0 2 rfl rfl)
theorem dX0_ways_5 : decode cX0_ways 5 = .ok (.getfield 86, 3) := dk_180 0 86 (dk_at dksX0_ways_0 5 rfl rfl)
theorem dX0_ways_8 : decode cX0_ways 8 = .ok (.if_icmp .ne 14, 3) := dk_160 0 14 (dk_at dksX0_ways_0 8 rfl rfl)
theorem dX0_ways_11 : decode cX0_ways 11 = .ok (.aload_n 0, 1) := dk_42 (dk_at dksX0_ways_0 11 rfl rfl)
theorem dX0_ways_12 : decode cX0_ways 12 = .ok (.iload_n 2, 1) := dk_28 (dk_at dksX0_ways_0 12 rfl rfl)
theorem dX0_ways_13 : decode cX0_ways 13 = .ok (.iload_n 3, 1) := dk_29 (dk_at dksX0_ways_0 13 rfl rfl)
theorem dX0_ways_14 : decode cX0_ways 14 = .ok (.iload 4, 2) := dk_21 4 (dk_at dksX0_ways_0 14 rfl rfl)
theorem dX0_ways_16 : decode cX0_ways 16 = .ok (.invokevirtual 271, 3) := dk_182 1 15 (dk_at dksX0_ways_0 16 rfl rfl)
theorem dX0_ways_19 : decode cX0_ways 19 = .ok (.goto 103, 3) := dk_167 0 103 (dk_at dksX0_ways_0 19 rfl rfl)
theorem dX0_ways_22 : decode cX0_ways 22 = .ok (.aload_n 0, 1) := dk_42 (dk_at dksX0_ways_0 22 rfl rfl)
theorem dX0_ways_23 : decode cX0_ways 23 = .ok (.getfield 33, 3) := dk_180 0 33 (dk_at dksX0_ways_1 0 rfl rfl)
theorem dX0_ways_26 : decode cX0_ways 26 = .ok (.iload_n 1, 1) := dk_27 (dk_at dksX0_ways_1 3 rfl rfl)
theorem dX0_ways_27 : decode cX0_ways 27 = .ok (.invokevirtual 191, 3) := dk_182 0 191 (dk_at dksX0_ways_1 4 rfl rfl)
theorem dX0_ways_30 : decode cX0_ways 30 = .ok (.ifCond .eq 17, 3) := dk_153 0 17 (dk_at dksX0_ways_1 7 rfl rfl)
theorem dX0_ways_33 : decode cX0_ways 33 = .ok (.aload_n 0, 1) := dk_42 (dk_at dksX0_ways_1 10 rfl rfl)
theorem dX0_ways_34 : decode cX0_ways 34 = .ok (.iload_n 1, 1) := dk_27 (dk_at dksX0_ways_1 11 rfl rfl)
theorem dX0_ways_35 : decode cX0_ways 35 = .ok (.iconst 1, 1) := dk_4 (dk_at dksX0_ways_1 12 rfl rfl)
theorem dX0_ways_36 : decode cX0_ways 36 = .ok (.iadd, 1) := dk_96 (dk_at dksX0_ways_1 13 rfl rfl)
theorem dX0_ways_37 : decode cX0_ways 37 = .ok (.iload_n 2, 1) := dk_28 (dk_at dksX0_ways_1 14 rfl rfl)
theorem dX0_ways_38 : decode cX0_ways 38 = .ok (.iload_n 3, 1) := dk_29 (dk_at dksX0_ways_1 15 rfl rfl)
theorem dX0_ways_39 : decode cX0_ways 39 = .ok (.iload 4, 2) := dk_21 4 (dk_at dksX0_ways_1 16 rfl rfl)
theorem dX0_ways_41 : decode cX0_ways 41 = .ok (.invokevirtual 275, 3) := dk_182 1 19 (dk_at dksX0_ways_1 18 rfl rfl)
theorem dX0_ways_44 : decode cX0_ways 44 = .ok (.goto 78, 3) := dk_167 0 78 (dk_at dksX0_ways_1 21 rfl rfl)
theorem dX0_ways_47 : decode cX0_ways 47 = .ok (.iconst 0, 1) := dk_3 (dk_at dksX0_ways_2 0 rfl rfl)
theorem dX0_ways_48 : decode cX0_ways 48 = .ok (.istore 5, 2) := dk_54 5 (dk_at dksX0_ways_2 1 rfl rfl)
theorem dX0_ways_50 : decode cX0_ways 50 = .ok (.iload 5, 2) := dk_21 5 (dk_at dksX0_ways_2 3 rfl rfl)
theorem dX0_ways_52 : decode cX0_ways 52 = .ok (.aload_n 0, 1) := dk_42 (dk_at dksX0_ways_2 5 rfl rfl)
theorem dX0_ways_53 : decode cX0_ways 53 = .ok (.getfield 54, 3) := dk_180 0 54 (dk_at dksX0_ways_2 6 rfl rfl)
theorem dX0_ways_56 : decode cX0_ways 56 = .ok (.if_icmp .ge 55, 3) := dk_162 0 55 (dk_at dksX0_ways_2 9 rfl rfl)
theorem dX0_ways_59 : decode cX0_ways 59 = .ok (.aload_n 0, 1) := dk_42 (dk_at dksX0_ways_2 12 rfl rfl)
theorem dX0_ways_60 : decode cX0_ways 60 = .ok (.getfield 249, 3) := dk_180 0 249 (dk_at dksX0_ways_2 13 rfl rfl)
theorem dX0_ways_63 : decode cX0_ways 63 = .ok (.getfield 128, 3) := dk_180 0 128 (dk_at dksX0_ways_2 16 rfl rfl)
theorem dX0_ways_66 : decode cX0_ways 66 = .ok (.iload_n 1, 1) := dk_27 (dk_at dksX0_ways_2 19 rfl rfl)
theorem dX0_ways_67 : decode cX0_ways 67 = .ok (.bipush (-4), 2) := dk_16 252 (dk_at dksX0_ways_2 20 rfl rfl)
theorem dX0_ways_69 : decode cX0_ways 69 = .ok (.iastore, 1) := dk_79 (dk_at dksX0_ways_2 22 rfl rfl)
theorem dX0_ways_70 : decode cX0_ways 70 = .ok (.aload_n 0, 1) := dk_42 (dk_at dksX0_ways_2 23 rfl rfl)
theorem dX0_ways_71 : decode cX0_ways 71 = .ok (.aload_n 0, 1) := dk_42 (dk_at dksX0_ways_3 0 rfl rfl)
theorem dX0_ways_72 : decode cX0_ways 72 = .ok (.getfield 249, 3) := dk_180 0 249 (dk_at dksX0_ways_3 1 rfl rfl)
theorem dX0_ways_75 : decode cX0_ways 75 = .ok (.iload 5, 2) := dk_21 5 (dk_at dksX0_ways_3 4 rfl rfl)
theorem dX0_ways_77 : decode cX0_ways 77 = .ok (.invokevirtual 166, 3) := dk_182 0 166 (dk_at dksX0_ways_3 6 rfl rfl)
theorem dX0_ways_80 : decode cX0_ways 80 = .ok (.ifCond .eq 25, 3) := dk_153 0 25 (dk_at dksX0_ways_3 9 rfl rfl)
theorem dX0_ways_83 : decode cX0_ways 83 = .ok (.aload_n 0, 1) := dk_42 (dk_at dksX0_ways_3 12 rfl rfl)
theorem dX0_ways_84 : decode cX0_ways 84 = .ok (.getfield 249, 3) := dk_180 0 249 (dk_at dksX0_ways_3 13 rfl rfl)
theorem dX0_ways_87 : decode cX0_ways 87 = .ok (.getfield 128, 3) := dk_180 0 128 (dk_at dksX0_ways_3 16 rfl rfl)
theorem dX0_ways_90 : decode cX0_ways 90 = .ok (.iload_n 1, 1) := dk_27 (dk_at dksX0_ways_3 19 rfl rfl)
theorem dX0_ways_91 : decode cX0_ways 91 = .ok (.iload 5, 2) := dk_21 5 (dk_at dksX0_ways_3 20 rfl rfl)
theorem dX0_ways_93 : decode cX0_ways 93 = .ok (.iastore, 1) := dk_79 (dk_at dksX0_ways_3 22 rfl rfl)
theorem dX0_ways_94 : decode cX0_ways 94 = .ok (.aload_n 0, 1) := dk_42 (dk_at dksX0_ways_3 23 rfl rfl)
theorem dX0_ways_95 : decode cX0_ways 95 = .ok (.iload_n 1, 1) := dk_27 (dk_at dksX0_ways_4 0 rfl rfl)
theorem dX0_ways_96 : decode cX0_ways 96 = .ok (.iconst 1, 1) := dk_4 (dk_at dksX0_ways_4 1 rfl rfl)
theorem dX0_ways_97 : decode cX0_ways 97 = .ok (.iadd, 1) := dk_96 (dk_at dksX0_ways_4 2 rfl rfl)
theorem dX0_ways_98 : decode cX0_ways 98 = .ok (.iload_n 2, 1) := dk_28 (dk_at dksX0_ways_4 3 rfl rfl)
theorem dX0_ways_99 : decode cX0_ways 99 = .ok (.iload_n 3, 1) := dk_29 (dk_at dksX0_ways_4 4 rfl rfl)
theorem dX0_ways_100 : decode cX0_ways 100 = .ok (.iload 4, 2) := dk_21 4 (dk_at dksX0_ways_4 5 rfl rfl)
theorem dX0_ways_102 : decode cX0_ways 102 = .ok (.invokevirtual 275, 3) := dk_182 1 19 (dk_at dksX0_ways_4 7 rfl rfl)
theorem dX0_ways_105 : decode cX0_ways 105 = .ok (.iinc 5 1, 3) := dk_132 5 1 (dk_at dksX0_ways_4 10 rfl rfl)
theorem dX0_ways_108 : decode cX0_ways 108 = .ok (.goto (-58), 3) := dk_167 255 198 (dk_at dksX0_ways_4 13 rfl rfl)
theorem dX0_ways_111 : decode cX0_ways 111 = .ok (.aload_n 0, 1) := dk_42 (dk_at dksX0_ways_4 16 rfl rfl)
theorem dX0_ways_112 : decode cX0_ways 112 = .ok (.getfield 249, 3) := dk_180 0 249 (dk_at dksX0_ways_4 17 rfl rfl)
theorem dX0_ways_115 : decode cX0_ways 115 = .ok (.getfield 128, 3) := dk_180 0 128 (dk_at dksX0_ways_4 20 rfl rfl)
theorem dX0_ways_118 : decode cX0_ways 118 = .ok (.iload_n 1, 1) := dk_27 (dk_at dksX0_ways_4 23 rfl rfl)
theorem dX0_ways_119 : decode cX0_ways 119 = .ok (.bipush (-4), 2) := dk_16 252 (dk_at dksX0_ways_5 0 rfl rfl)
theorem dX0_ways_121 : decode cX0_ways 121 = .ok (.iastore, 1) := dk_79 (dk_at dksX0_ways_5 2 rfl rfl)
theorem dX0_ways_122 : decode cX0_ways 122 = .ok (.return_, 1) := dk_177 (dk_at dksX0_ways_5 3 rfl rfl)
abbrev cX0_weighs : ByteArray := prog_1_method_39_code
def yX0_weighs : MethodName := ⟨RX0, "weighs", "(III)V"⟩
def dkwX0_weighs_7 : List UInt8 := [79, 177]
abbrev dktX0_weighs_7 : List UInt8 := dkwX0_weighs_7 ++ []
def dkwX0_weighs_6 : List UInt8 := [167, 255, 203, 42, 180, 1, 12, 42, 42, 180, 0, 249, 28, 29, 182, 0, 223, 184, 0, 161, 92, 46, 4, 96]
abbrev dktX0_weighs_6 : List UInt8 := dkwX0_weighs_6 ++ dktX0_weighs_7
def dkwX0_weighs_5 : List UInt8 := [153, 0, 7, 3, 167, 0, 15, 4, 42, 180, 0, 249, 180, 0, 128, 21, 4, 46, 120, 128, 79, 132, 4, 1]
abbrev dktX0_weighs_5 : List UInt8 := dkwX0_weighs_5 ++ dktX0_weighs_6
def dkwX0_weighs_4 : List UInt8 := [180, 0, 86, 162, 0, 47, 42, 180, 1, 9, 21, 4, 92, 46, 42, 180, 0, 249, 21, 4, 182, 0, 191]
abbrev dktX0_weighs_4 : List UInt8 := dkwX0_weighs_4 ++ dktX0_weighs_5
def dkwX0_weighs_3 : List UInt8 := [153, 0, 94, 42, 89, 180, 1, 6, 4, 96, 181, 1, 6, 3, 54, 4, 21, 4, 42, 180, 0, 249]
abbrev dktX0_weighs_3 : List UInt8 := dkwX0_weighs_3 ++ dktX0_weighs_4
def dkwX0_weighs_2 : List UInt8 := [180, 0, 249, 180, 0, 128, 3, 42, 180, 0, 255, 3, 8, 184, 0, 17, 167, 0, 101, 42, 182, 1, 2]
abbrev dktX0_weighs_2 : List UInt8 := dkwX0_weighs_2 ++ dktX0_weighs_3
def dkwX0_weighs_1 : List UInt8 := [42, 42, 180, 0, 206, 182, 0, 245, 42, 180, 0, 252, 164, 0, 129, 42, 42, 180, 0, 232, 181, 0, 252, 42]
abbrev dktX0_weighs_1 : List UInt8 := dkwX0_weighs_1 ++ dktX0_weighs_2
def dkwX0_weighs_0 : List UInt8 := [27, 155, 0, 66, 42, 180, 0, 206, 42, 180, 0, 249, 182, 0, 40, 42, 42, 180, 0, 206, 27, 182, 0, 202]
abbrev dktX0_weighs_0 : List UInt8 := dkwX0_weighs_0 ++ dktX0_weighs_1
theorem dksX0_weighs_0 : cX0_weighs.data.toList.drop 0 = dktX0_weighs_0 := by decide +kernel
theorem dksX0_weighs_1 : cX0_weighs.data.toList.drop 24 = dktX0_weighs_1 := dk_seg dksX0_weighs_0 24 rfl rfl
theorem dksX0_weighs_2 : cX0_weighs.data.toList.drop 48 = dktX0_weighs_2 := dk_seg dksX0_weighs_1 24 rfl rfl
theorem dksX0_weighs_3 : cX0_weighs.data.toList.drop 71 = dktX0_weighs_3 := dk_seg dksX0_weighs_2 23 rfl rfl
theorem dksX0_weighs_4 : cX0_weighs.data.toList.drop 93 = dktX0_weighs_4 := dk_seg dksX0_weighs_3 22 rfl rfl
theorem dksX0_weighs_5 : cX0_weighs.data.toList.drop 116 = dktX0_weighs_5 := dk_seg dksX0_weighs_4 23 rfl rfl
theorem dksX0_weighs_6 : cX0_weighs.data.toList.drop 140 = dktX0_weighs_6 := dk_seg dksX0_weighs_5 24 rfl rfl
theorem dksX0_weighs_7 : cX0_weighs.data.toList.drop 164 = dktX0_weighs_7 := dk_seg dksX0_weighs_6 24 rfl rfl
theorem dX0_weighs_0 : decode cX0_weighs 0 = .ok (.iload_n 1, 1) := dk_27 (dk_at dksX0_weighs_0 0 rfl rfl)
theorem dX0_weighs_1 : decode cX0_weighs 1 = .ok (.ifCond .lt 66, 3) := dk_155 0 66 (dk_at dksX0_weighs_0 1 rfl rfl)
theorem dX0_weighs_4 : decode cX0_weighs 4 = .ok (.aload_n 0, 1) := dk_42 (dk_at dksX0_weighs_0 4 rfl rfl)
theorem dX0_weighs_5 : decode cX0_weighs 5 = .ok (.getfield 206, 3) := dk_180 0 206 (dk_at dksX0_weighs_0 5 rfl rfl)
theorem dX0_weighs_8 : decode cX0_weighs 8 = .ok (.aload_n 0, 1) := dk_42 (dk_at dksX0_weighs_0 8 rfl rfl)
theorem dX0_weighs_9 : decode cX0_weighs 9 = .ok (.getfield 249, 3) := dk_180 0 249 (dk_at dksX0_weighs_0 9 rfl rfl)
theorem dX0_weighs_12 : decode cX0_weighs 12 = .ok (.invokevirtual 40, 3) := dk_182 0 40 (dk_at dksX0_weighs_0 12 rfl rfl)
theorem dX0_weighs_15 : decode cX0_weighs 15 = .ok (.aload_n 0, 1) := dk_42 (dk_at dksX0_weighs_0 15 rfl rfl)
theorem dX0_weighs_16 : decode cX0_weighs 16 = .ok (.aload_n 0, 1) := dk_42 (dk_at dksX0_weighs_0 16 rfl rfl)
theorem dX0_weighs_17 : decode cX0_weighs 17 = .ok (.getfield 206, 3) := dk_180 0 206 (dk_at dksX0_weighs_0 17 rfl rfl)
theorem dX0_weighs_20 : decode cX0_weighs 20 = .ok (.iload_n 1, 1) := dk_27 (dk_at dksX0_weighs_0 20 rfl rfl)
theorem dX0_weighs_21 : decode cX0_weighs 21 = .ok (.invokevirtual 202, 3) := dk_182 0 202 (dk_at dksX0_weighs_0 21 rfl rfl)
theorem dX0_weighs_24 : decode cX0_weighs 24 = .ok (.aload_n 0, 1) := dk_42 (dk_at dksX0_weighs_1 0 rfl rfl)
theorem dX0_weighs_25 : decode cX0_weighs 25 = .ok (.aload_n 0, 1) := dk_42 (dk_at dksX0_weighs_1 1 rfl rfl)
theorem dX0_weighs_26 : decode cX0_weighs 26 = .ok (.getfield 206, 3) := dk_180 0 206 (dk_at dksX0_weighs_1 2 rfl rfl)
theorem dX0_weighs_29 : decode cX0_weighs 29 = .ok (.invokevirtual 245, 3) := dk_182 0 245 (dk_at dksX0_weighs_1 5 rfl rfl)
theorem dX0_weighs_32 : decode cX0_weighs 32 = .ok (.aload_n 0, 1) := dk_42 (dk_at dksX0_weighs_1 8 rfl rfl)
theorem dX0_weighs_33 : decode cX0_weighs 33 = .ok (.getfield 252, 3) := dk_180 0 252 (dk_at dksX0_weighs_1 9 rfl rfl)
theorem dX0_weighs_36 : decode cX0_weighs 36 = .ok (.if_icmp .le 129, 3) := dk_164 0 129 (dk_at dksX0_weighs_1 12 rfl rfl)
theorem dX0_weighs_39 : decode cX0_weighs 39 = .ok (.aload_n 0, 1) := dk_42 (dk_at dksX0_weighs_1 15 rfl rfl)
theorem dX0_weighs_40 : decode cX0_weighs 40 = .ok (.aload_n 0, 1) := dk_42 (dk_at dksX0_weighs_1 16 rfl rfl)
theorem dX0_weighs_41 : decode cX0_weighs 41 = .ok (.getfield 232, 3) := dk_180 0 232 (dk_at dksX0_weighs_1 17 rfl rfl)
theorem dX0_weighs_44 : decode cX0_weighs 44 = .ok (.putfield 252, 3) := dk_181 0 252 (dk_at dksX0_weighs_1 20 rfl rfl)
theorem dX0_weighs_47 : decode cX0_weighs 47 = .ok (.aload_n 0, 1) := dk_42 (dk_at dksX0_weighs_1 23 rfl rfl)
theorem dX0_weighs_48 : decode cX0_weighs 48 = .ok (.getfield 249, 3) := dk_180 0 249 (dk_at dksX0_weighs_2 0 rfl rfl)
theorem dX0_weighs_51 : decode cX0_weighs 51 = .ok (.getfield 128, 3) := dk_180 0 128 (dk_at dksX0_weighs_2 3 rfl rfl)
theorem dX0_weighs_54 : decode cX0_weighs 54 = .ok (.iconst 0, 1) := dk_3 (dk_at dksX0_weighs_2 6 rfl rfl)
theorem dX0_weighs_55 : decode cX0_weighs 55 = .ok (.aload_n 0, 1) := dk_42 (dk_at dksX0_weighs_2 7 rfl rfl)
theorem dX0_weighs_56 : decode cX0_weighs 56 = .ok (.getfield 255, 3) := dk_180 0 255 (dk_at dksX0_weighs_2 8 rfl rfl)
theorem dX0_weighs_59 : decode cX0_weighs 59 = .ok (.iconst 0, 1) := dk_3 (dk_at dksX0_weighs_2 11 rfl rfl)
theorem dX0_weighs_60 : decode cX0_weighs 60 = .ok (.iconst 5, 1) := dk_8 (dk_at dksX0_weighs_2 12 rfl rfl)
theorem dX0_weighs_61 : decode cX0_weighs 61 = .ok (.invokestatic 17, 3) := dk_184 0 17 (dk_at dksX0_weighs_2 13 rfl rfl)
theorem dX0_weighs_64 : decode cX0_weighs 64 = .ok (.goto 101, 3) := dk_167 0 101 (dk_at dksX0_weighs_2 16 rfl rfl)
theorem dX0_weighs_67 : decode cX0_weighs 67 = .ok (.aload_n 0, 1) := dk_42 (dk_at dksX0_weighs_2 19 rfl rfl)
theorem dX0_weighs_68 : decode cX0_weighs 68 = .ok (.invokevirtual 258, 3) := dk_182 1 2 (dk_at dksX0_weighs_2 20 rfl rfl)
theorem dX0_weighs_71 : decode cX0_weighs 71 = .ok (.ifCond .eq 94, 3) := dk_153 0 94 (dk_at dksX0_weighs_3 0 rfl rfl)
theorem dX0_weighs_74 : decode cX0_weighs 74 = .ok (.aload_n 0, 1) := dk_42 (dk_at dksX0_weighs_3 3 rfl rfl)
theorem dX0_weighs_75 : decode cX0_weighs 75 = .ok (.dup, 1) := dk_89 (dk_at dksX0_weighs_3 4 rfl rfl)
theorem dX0_weighs_76 : decode cX0_weighs 76 = .ok (.getfield 262, 3) := dk_180 1 6 (dk_at dksX0_weighs_3 5 rfl rfl)
theorem dX0_weighs_79 : decode cX0_weighs 79 = .ok (.iconst 1, 1) := dk_4 (dk_at dksX0_weighs_3 8 rfl rfl)
theorem dX0_weighs_80 : decode cX0_weighs 80 = .ok (.iadd, 1) := dk_96 (dk_at dksX0_weighs_3 9 rfl rfl)
theorem dX0_weighs_81 : decode cX0_weighs 81 = .ok (.putfield 262, 3) := dk_181 1 6 (dk_at dksX0_weighs_3 10 rfl rfl)
theorem dX0_weighs_84 : decode cX0_weighs 84 = .ok (.iconst 0, 1) := dk_3 (dk_at dksX0_weighs_3 13 rfl rfl)
theorem dX0_weighs_85 : decode cX0_weighs 85 = .ok (.istore 4, 2) := dk_54 4 (dk_at dksX0_weighs_3 14 rfl rfl)
theorem dX0_weighs_87 : decode cX0_weighs 87 = .ok (.iload 4, 2) := dk_21 4 (dk_at dksX0_weighs_3 16 rfl rfl)
theorem dX0_weighs_89 : decode cX0_weighs 89 = .ok (.aload_n 0, 1) := dk_42 (dk_at dksX0_weighs_3 18 rfl rfl)
theorem dX0_weighs_90 : decode cX0_weighs 90 = .ok (.getfield 249, 3) := dk_180 0 249 (dk_at dksX0_weighs_3 19 rfl rfl)
theorem dX0_weighs_93 : decode cX0_weighs 93 = .ok (.getfield 86, 3) := dk_180 0 86 (dk_at dksX0_weighs_4 0 rfl rfl)
theorem dX0_weighs_96 : decode cX0_weighs 96 = .ok (.if_icmp .ge 47, 3) := dk_162 0 47 (dk_at dksX0_weighs_4 3 rfl rfl)
theorem dX0_weighs_99 : decode cX0_weighs 99 = .ok (.aload_n 0, 1) := dk_42 (dk_at dksX0_weighs_4 6 rfl rfl)
theorem dX0_weighs_100 : decode cX0_weighs 100 = .ok (.getfield 265, 3) := dk_180 1 9 (dk_at dksX0_weighs_4 7 rfl rfl)
theorem dX0_weighs_103 : decode cX0_weighs 103 = .ok (.iload 4, 2) := dk_21 4 (dk_at dksX0_weighs_4 10 rfl rfl)
theorem dX0_weighs_105 : decode cX0_weighs 105 = .ok (.dup2, 1) := dk_92 (dk_at dksX0_weighs_4 12 rfl rfl)
theorem dX0_weighs_106 : decode cX0_weighs 106 = .ok (.iaload, 1) := dk_46 (dk_at dksX0_weighs_4 13 rfl rfl)
theorem dX0_weighs_107 : decode cX0_weighs 107 = .ok (.aload_n 0, 1) := dk_42 (dk_at dksX0_weighs_4 14 rfl rfl)
theorem dX0_weighs_108 : decode cX0_weighs 108 = .ok (.getfield 249, 3) := dk_180 0 249 (dk_at dksX0_weighs_4 15 rfl rfl)
theorem dX0_weighs_111 : decode cX0_weighs 111 = .ok (.iload 4, 2) := dk_21 4 (dk_at dksX0_weighs_4 18 rfl rfl)
theorem dX0_weighs_113 : decode cX0_weighs 113 = .ok (.invokevirtual 191, 3) := dk_182 0 191 (dk_at dksX0_weighs_4 20 rfl rfl)
theorem dX0_weighs_116 : decode cX0_weighs 116 = .ok (.ifCond .eq 7, 3) := dk_153 0 7 (dk_at dksX0_weighs_5 0 rfl rfl)
theorem dX0_weighs_119 : decode cX0_weighs 119 = .ok (.iconst 0, 1) := dk_3 (dk_at dksX0_weighs_5 3 rfl rfl)
theorem dX0_weighs_120 : decode cX0_weighs 120 = .ok (.goto 15, 3) := dk_167 0 15 (dk_at dksX0_weighs_5 4 rfl rfl)
theorem dX0_weighs_123 : decode cX0_weighs 123 = .ok (.iconst 1, 1) := dk_4 (dk_at dksX0_weighs_5 7 rfl rfl)
theorem dX0_weighs_124 : decode cX0_weighs 124 = .ok (.aload_n 0, 1) := dk_42 (dk_at dksX0_weighs_5 8 rfl rfl)
theorem dX0_weighs_125 : decode cX0_weighs 125 = .ok (.getfield 249, 3) := dk_180 0 249 (dk_at dksX0_weighs_5 9 rfl rfl)
theorem dX0_weighs_128 : decode cX0_weighs 128 = .ok (.getfield 128, 3) := dk_180 0 128 (dk_at dksX0_weighs_5 12 rfl rfl)
theorem dX0_weighs_131 : decode cX0_weighs 131 = .ok (.iload 4, 2) := dk_21 4 (dk_at dksX0_weighs_5 15 rfl rfl)
theorem dX0_weighs_133 : decode cX0_weighs 133 = .ok (.iaload, 1) := dk_46 (dk_at dksX0_weighs_5 17 rfl rfl)
theorem dX0_weighs_134 : decode cX0_weighs 134 = .ok (.ishl, 1) := dk_120 (dk_at dksX0_weighs_5 18 rfl rfl)
theorem dX0_weighs_135 : decode cX0_weighs 135 = .ok (.ior, 1) := dk_128 (dk_at dksX0_weighs_5 19 rfl rfl)
theorem dX0_weighs_136 : decode cX0_weighs 136 = .ok (.iastore, 1) := dk_79 (dk_at dksX0_weighs_5 20 rfl rfl)
theorem dX0_weighs_137 : decode cX0_weighs 137 = .ok (.iinc 4 1, 3) := dk_132 4 1 (dk_at dksX0_weighs_5 21 rfl rfl)
theorem dX0_weighs_140 : decode cX0_weighs 140 = .ok (.goto (-53), 3) := dk_167 255 203 (dk_at dksX0_weighs_6 0 rfl rfl)
theorem dX0_weighs_143 : decode cX0_weighs 143 = .ok (.aload_n 0, 1) := dk_42 (dk_at dksX0_weighs_6 3 rfl rfl)
theorem dX0_weighs_144 : decode cX0_weighs 144 = .ok (.getfield 268, 3) := dk_180 1 12 (dk_at dksX0_weighs_6 4 rfl rfl)
theorem dX0_weighs_147 : decode cX0_weighs 147 = .ok (.aload_n 0, 1) := dk_42 (dk_at dksX0_weighs_6 7 rfl rfl)
theorem dX0_weighs_148 : decode cX0_weighs 148 = .ok (.aload_n 0, 1) := dk_42 (dk_at dksX0_weighs_6 8 rfl rfl)
theorem dX0_weighs_149 : decode cX0_weighs 149 = .ok (.getfield 249, 3) := dk_180 0 249 (dk_at dksX0_weighs_6 9 rfl rfl)
theorem dX0_weighs_152 : decode cX0_weighs 152 = .ok (.iload_n 2, 1) := dk_28 (dk_at dksX0_weighs_6 12 rfl rfl)
theorem dX0_weighs_153 : decode cX0_weighs 153 = .ok (.iload_n 3, 1) := dk_29 (dk_at dksX0_weighs_6 13 rfl rfl)
theorem dX0_weighs_154 : decode cX0_weighs 154 = .ok (.invokevirtual 223, 3) := dk_182 0 223 (dk_at dksX0_weighs_6 14 rfl rfl)
theorem dX0_weighs_157 : decode cX0_weighs 157 = .ok (.invokestatic 161, 3) := dk_184 0 161 (dk_at dksX0_weighs_6 17 rfl rfl)
theorem dX0_weighs_160 : decode cX0_weighs 160 = .ok (.dup2, 1) := dk_92 (dk_at dksX0_weighs_6 20 rfl rfl)
theorem dX0_weighs_161 : decode cX0_weighs 161 = .ok (.iaload, 1) := dk_46 (dk_at dksX0_weighs_6 21 rfl rfl)
theorem dX0_weighs_162 : decode cX0_weighs 162 = .ok (.iconst 1, 1) := dk_4 (dk_at dksX0_weighs_6 22 rfl rfl)
theorem dX0_weighs_163 : decode cX0_weighs 163 = .ok (.iadd, 1) := dk_96 (dk_at dksX0_weighs_6 23 rfl rfl)
theorem dX0_weighs_164 : decode cX0_weighs 164 = .ok (.iastore, 1) := dk_79 (dk_at dksX0_weighs_7 0 rfl rfl)
theorem dX0_weighs_165 : decode cX0_weighs 165 = .ok (.return_, 1) := dk_177 (dk_at dksX0_weighs_7 1 rfl rfl)
abbrev cX0_isAsSeen : ByteArray := prog_1_method_52_code
def yX0_isAsSeen : MethodName := ⟨RX0, "isAsSeen", "()Z"⟩
def dkwX0_isAsSeen_2 : List UInt8 := [180, 1, 54, 28, 50, 5, 46, 160, 0, 7, 4, 167, 0, 4, 3, 60, 132, 2, 1, 167, 255, 197, 27, 172]
abbrev dktX0_isAsSeen_2 : List UInt8 := dkwX0_isAsSeen_2 ++ []
def dkwX0_isAsSeen_1 : List UInt8 := [180, 1, 54, 28, 50, 3, 46, 42, 180, 1, 54, 28, 50, 4, 46, 182, 0, 223, 184, 0, 161, 42]
abbrev dktX0_isAsSeen_1 : List UInt8 := dkwX0_isAsSeen_1 ++ dktX0_isAsSeen_2
def dkwX0_isAsSeen_0 : List UInt8 := [4, 60, 3, 61, 28, 42, 180, 0, 59, 162, 0, 57, 27, 153, 0, 53, 42, 42, 180, 0, 249, 42]
abbrev dktX0_isAsSeen_0 : List UInt8 := dkwX0_isAsSeen_0 ++ dktX0_isAsSeen_1
theorem dksX0_isAsSeen_0 : cX0_isAsSeen.data.toList.drop 0 = dktX0_isAsSeen_0 := by decide +kernel
theorem dksX0_isAsSeen_1 : cX0_isAsSeen.data.toList.drop 22 = dktX0_isAsSeen_1 := dk_seg dksX0_isAsSeen_0 22 rfl rfl
theorem dksX0_isAsSeen_2 : cX0_isAsSeen.data.toList.drop 44 = dktX0_isAsSeen_2 := dk_seg dksX0_isAsSeen_1 22 rfl rfl
theorem dX0_isAsSeen_0 : decode cX0_isAsSeen 0 = .ok (.iconst 1, 1) := dk_4 (dk_at dksX0_isAsSeen_0 0 rfl rfl)
theorem dX0_isAsSeen_1 : decode cX0_isAsSeen 1 = .ok (.istore_n 1, 1) := dk_60 (dk_at dksX0_isAsSeen_0 1 rfl rfl)
theorem dX0_isAsSeen_2 : decode cX0_isAsSeen 2 = .ok (.iconst 0, 1) := dk_3 (dk_at dksX0_isAsSeen_0 2 rfl rfl)
theorem dX0_isAsSeen_3 : decode cX0_isAsSeen 3 = .ok (.istore_n 2, 1) := dk_61 (dk_at dksX0_isAsSeen_0 3 rfl rfl)
theorem dX0_isAsSeen_4 : decode cX0_isAsSeen 4 = .ok (.iload_n 2, 1) := dk_28 (dk_at dksX0_isAsSeen_0 4 rfl rfl)
theorem dX0_isAsSeen_5 : decode cX0_isAsSeen 5 = .ok (.aload_n 0, 1) := dk_42 (dk_at dksX0_isAsSeen_0 5 rfl rfl)
theorem dX0_isAsSeen_6 : decode cX0_isAsSeen 6 = .ok (.getfield 59, 3) := dk_180 0 59 (dk_at dksX0_isAsSeen_0 6 rfl rfl)
theorem dX0_isAsSeen_9 : decode cX0_isAsSeen 9 = .ok (.if_icmp .ge 57, 3) := dk_162 0 57 (dk_at dksX0_isAsSeen_0 9 rfl rfl)
theorem dX0_isAsSeen_12 : decode cX0_isAsSeen 12 = .ok (.iload_n 1, 1) := dk_27 (dk_at dksX0_isAsSeen_0 12 rfl rfl)
theorem dX0_isAsSeen_13 : decode cX0_isAsSeen 13 = .ok (.ifCond .eq 53, 3) := dk_153 0 53 (dk_at dksX0_isAsSeen_0 13 rfl rfl)
theorem dX0_isAsSeen_16 : decode cX0_isAsSeen 16 = .ok (.aload_n 0, 1) := dk_42 (dk_at dksX0_isAsSeen_0 16 rfl rfl)
theorem dX0_isAsSeen_17 : decode cX0_isAsSeen 17 = .ok (.aload_n 0, 1) := dk_42 (dk_at dksX0_isAsSeen_0 17 rfl rfl)
theorem dX0_isAsSeen_18 : decode cX0_isAsSeen 18 = .ok (.getfield 249, 3) := dk_180 0 249 (dk_at dksX0_isAsSeen_0 18 rfl rfl)
theorem dX0_isAsSeen_21 : decode cX0_isAsSeen 21 = .ok (.aload_n 0, 1) := dk_42 (dk_at dksX0_isAsSeen_0 21 rfl rfl)
theorem dX0_isAsSeen_22 : decode cX0_isAsSeen 22 = .ok (.getfield 310, 3) := dk_180 1 54 (dk_at dksX0_isAsSeen_1 0 rfl rfl)
theorem dX0_isAsSeen_25 : decode cX0_isAsSeen 25 = .ok (.iload_n 2, 1) := dk_28 (dk_at dksX0_isAsSeen_1 3 rfl rfl)
theorem dX0_isAsSeen_26 : decode cX0_isAsSeen 26 = .ok (.aaload, 1) := dk_50 (dk_at dksX0_isAsSeen_1 4 rfl rfl)
theorem dX0_isAsSeen_27 : decode cX0_isAsSeen 27 = .ok (.iconst 0, 1) := dk_3 (dk_at dksX0_isAsSeen_1 5 rfl rfl)
theorem dX0_isAsSeen_28 : decode cX0_isAsSeen 28 = .ok (.iaload, 1) := dk_46 (dk_at dksX0_isAsSeen_1 6 rfl rfl)
theorem dX0_isAsSeen_29 : decode cX0_isAsSeen 29 = .ok (.aload_n 0, 1) := dk_42 (dk_at dksX0_isAsSeen_1 7 rfl rfl)
theorem dX0_isAsSeen_30 : decode cX0_isAsSeen 30 = .ok (.getfield 310, 3) := dk_180 1 54 (dk_at dksX0_isAsSeen_1 8 rfl rfl)
theorem dX0_isAsSeen_33 : decode cX0_isAsSeen 33 = .ok (.iload_n 2, 1) := dk_28 (dk_at dksX0_isAsSeen_1 11 rfl rfl)
theorem dX0_isAsSeen_34 : decode cX0_isAsSeen 34 = .ok (.aaload, 1) := dk_50 (dk_at dksX0_isAsSeen_1 12 rfl rfl)
theorem dX0_isAsSeen_35 : decode cX0_isAsSeen 35 = .ok (.iconst 1, 1) := dk_4 (dk_at dksX0_isAsSeen_1 13 rfl rfl)
theorem dX0_isAsSeen_36 : decode cX0_isAsSeen 36 = .ok (.iaload, 1) := dk_46 (dk_at dksX0_isAsSeen_1 14 rfl rfl)
theorem dX0_isAsSeen_37 : decode cX0_isAsSeen 37 = .ok (.invokevirtual 223, 3) := dk_182 0 223 (dk_at dksX0_isAsSeen_1 15 rfl rfl)
theorem dX0_isAsSeen_40 : decode cX0_isAsSeen 40 = .ok (.invokestatic 161, 3) := dk_184 0 161 (dk_at dksX0_isAsSeen_1 18 rfl rfl)
theorem dX0_isAsSeen_43 : decode cX0_isAsSeen 43 = .ok (.aload_n 0, 1) := dk_42 (dk_at dksX0_isAsSeen_1 21 rfl rfl)
theorem dX0_isAsSeen_44 : decode cX0_isAsSeen 44 = .ok (.getfield 310, 3) := dk_180 1 54 (dk_at dksX0_isAsSeen_2 0 rfl rfl)
theorem dX0_isAsSeen_47 : decode cX0_isAsSeen 47 = .ok (.iload_n 2, 1) := dk_28 (dk_at dksX0_isAsSeen_2 3 rfl rfl)
theorem dX0_isAsSeen_48 : decode cX0_isAsSeen 48 = .ok (.aaload, 1) := dk_50 (dk_at dksX0_isAsSeen_2 4 rfl rfl)
theorem dX0_isAsSeen_49 : decode cX0_isAsSeen 49 = .ok (.iconst 2, 1) := dk_5 (dk_at dksX0_isAsSeen_2 5 rfl rfl)
theorem dX0_isAsSeen_50 : decode cX0_isAsSeen 50 = .ok (.iaload, 1) := dk_46 (dk_at dksX0_isAsSeen_2 6 rfl rfl)
theorem dX0_isAsSeen_51 : decode cX0_isAsSeen 51 = .ok (.if_icmp .ne 7, 3) := dk_160 0 7 (dk_at dksX0_isAsSeen_2 7 rfl rfl)
theorem dX0_isAsSeen_54 : decode cX0_isAsSeen 54 = .ok (.iconst 1, 1) := dk_4 (dk_at dksX0_isAsSeen_2 10 rfl rfl)
theorem dX0_isAsSeen_55 : decode cX0_isAsSeen 55 = .ok (.goto 4, 3) := dk_167 0 4 (dk_at dksX0_isAsSeen_2 11 rfl rfl)
theorem dX0_isAsSeen_58 : decode cX0_isAsSeen 58 = .ok (.iconst 0, 1) := dk_3 (dk_at dksX0_isAsSeen_2 14 rfl rfl)
theorem dX0_isAsSeen_59 : decode cX0_isAsSeen 59 = .ok (.istore_n 1, 1) := dk_60 (dk_at dksX0_isAsSeen_2 15 rfl rfl)
theorem dX0_isAsSeen_60 : decode cX0_isAsSeen 60 = .ok (.iinc 2 1, 3) := dk_132 2 1 (dk_at dksX0_isAsSeen_2 16 rfl rfl)
theorem dX0_isAsSeen_63 : decode cX0_isAsSeen 63 = .ok (.goto (-59), 3) := dk_167 255 197 (dk_at dksX0_isAsSeen_2 19 rfl rfl)
theorem dX0_isAsSeen_66 : decode cX0_isAsSeen 66 = .ok (.iload_n 1, 1) := dk_27 (dk_at dksX0_isAsSeen_2 22 rfl rfl)
theorem dX0_isAsSeen_67 : decode cX0_isAsSeen 67 = .ok (.ireturn, 1) := dk_172 (dk_at dksX0_isAsSeen_2 23 rfl rfl)
abbrev cX0_near : ByteArray := prog_1_method_43_code
def yX0_near : MethodName := ⟨RX0, "near", "(I)I"⟩
def dkwX0_near_7 : List UInt8 := [167, 0, 4, 28, 172]
abbrev dktX0_near_7 : List UInt8 := dkwX0_near_7 ++ []
def dkwX0_near_6 : List UInt8 := [132, 5, 1, 167, 255, 147, 132, 4, 1, 167, 255, 129, 29, 16, 252, 159, 0, 7, 27, 154, 0, 7, 29]
abbrev dktX0_near_6 : List UInt8 := dkwX0_near_6 ++ dktX0_near_7
def dkwX0_near_5 : List UInt8 := [162, 0, 14, 16, 10, 21, 4, 104, 21, 5, 96, 167, 0, 4, 29, 62, 28, 21, 6, 184, 1, 29, 61]
abbrev dktX0_near_5 : List UInt8 := dkwX0_near_5 ++ dktX0_near_6
def dkwX0_near_4 : List UInt8 := [21, 4, 50, 180, 0, 147, 42, 180, 0, 33, 21, 5, 182, 0, 131, 100, 184, 0, 227, 54, 6, 21, 6, 28]
abbrev dktX0_near_4 : List UInt8 := dkwX0_near_4 ++ dktX0_near_5
def dkwX0_near_3 : List UInt8 := [154, 0, 70, 42, 42, 180, 0, 33, 21, 5, 21, 4, 182, 0, 213, 153, 0, 55, 3, 42, 180, 0, 50]
abbrev dktX0_near_3 : List UInt8 := dkwX0_near_3 ++ dktX0_near_4
def dkwX0_near_2 : List UInt8 := [180, 0, 33, 180, 0, 103, 21, 4, 184, 0, 209, 154, 0, 82, 42, 180, 0, 33, 21, 5, 182, 0, 191]
abbrev dktX0_near_2 : List UInt8 := dkwX0_near_2 ++ dktX0_near_3
def dkwX0_near_1 : List UInt8 := [42, 180, 0, 58, 162, 0, 124, 3, 54, 5, 21, 5, 42, 180, 0, 33, 180, 0, 86, 162, 0, 103, 42]
abbrev dktX0_near_1 : List UInt8 := dkwX0_near_1 ++ dktX0_near_2
def dkwX0_near_0 : List UInt8 := [27, 133, 9, 10, 184, 0, 3, 154, 0, 5, 2, 172, 19, 1, 28, 61, 16, 252, 62, 3, 54, 4, 21, 4]
abbrev dktX0_near_0 : List UInt8 := dkwX0_near_0 ++ dktX0_near_1
theorem dksX0_near_0 : cX0_near.data.toList.drop 0 = dktX0_near_0 := by decide +kernel
theorem dksX0_near_1 : cX0_near.data.toList.drop 24 = dktX0_near_1 := dk_seg dksX0_near_0 24 rfl rfl
theorem dksX0_near_2 : cX0_near.data.toList.drop 47 = dktX0_near_2 := dk_seg dksX0_near_1 23 rfl rfl
theorem dksX0_near_3 : cX0_near.data.toList.drop 70 = dktX0_near_3 := dk_seg dksX0_near_2 23 rfl rfl
theorem dksX0_near_4 : cX0_near.data.toList.drop 93 = dktX0_near_4 := dk_seg dksX0_near_3 23 rfl rfl
theorem dksX0_near_5 : cX0_near.data.toList.drop 117 = dktX0_near_5 := dk_seg dksX0_near_4 24 rfl rfl
theorem dksX0_near_6 : cX0_near.data.toList.drop 140 = dktX0_near_6 := dk_seg dksX0_near_5 23 rfl rfl
theorem dksX0_near_7 : cX0_near.data.toList.drop 163 = dktX0_near_7 := dk_seg dksX0_near_6 23 rfl rfl
theorem dX0_near_0 : decode cX0_near 0 = .ok (.iload_n 1, 1) := dk_27 (dk_at dksX0_near_0 0 rfl rfl)
theorem dX0_near_1 : decode cX0_near 1 = .ok (.i2l, 1) := dk_133 (dk_at dksX0_near_0 1 rfl rfl)
theorem dX0_near_2 : decode cX0_near 2 = .ok (.lconst 0, 1) := dk_9 (dk_at dksX0_near_0 2 rfl rfl)
theorem dX0_near_3 : decode cX0_near 3 = .ok (.lconst 1, 1) := dk_10 (dk_at dksX0_near_0 3 rfl rfl)
theorem dX0_near_4 : decode cX0_near 4 = .ok (.invokestatic 3, 3) := dk_184 0 3 (dk_at dksX0_near_0 4 rfl rfl)
theorem dX0_near_7 : decode cX0_near 7 = .ok (.ifCond .ne 5, 3) := dk_154 0 5 (dk_at dksX0_near_0 7 rfl rfl)
theorem dX0_near_10 : decode cX0_near 10 = .ok (.iconst (-1), 1) := dk_2 (dk_at dksX0_near_0 10 rfl rfl)
theorem dX0_near_11 : decode cX0_near 11 = .ok (.ireturn, 1) := dk_172 (dk_at dksX0_near_0 11 rfl rfl)
theorem dX0_near_12 : decode cX0_near 12 = .ok (.ldc_w 284, 3) := dk_19 1 28 (dk_at dksX0_near_0 12 rfl rfl)
theorem dX0_near_15 : decode cX0_near 15 = .ok (.istore_n 2, 1) := dk_61 (dk_at dksX0_near_0 15 rfl rfl)
theorem dX0_near_16 : decode cX0_near 16 = .ok (.bipush (-4), 2) := dk_16 252 (dk_at dksX0_near_0 16 rfl rfl)
theorem dX0_near_18 : decode cX0_near 18 = .ok (.istore_n 3, 1) := dk_62 (dk_at dksX0_near_0 18 rfl rfl)
theorem dX0_near_19 : decode cX0_near 19 = .ok (.iconst 0, 1) := dk_3 (dk_at dksX0_near_0 19 rfl rfl)
theorem dX0_near_20 : decode cX0_near 20 = .ok (.istore 4, 2) := dk_54 4 (dk_at dksX0_near_0 20 rfl rfl)
theorem dX0_near_22 : decode cX0_near 22 = .ok (.iload 4, 2) := dk_21 4 (dk_at dksX0_near_0 22 rfl rfl)
theorem dX0_near_24 : decode cX0_near 24 = .ok (.aload_n 0, 1) := dk_42 (dk_at dksX0_near_1 0 rfl rfl)
theorem dX0_near_25 : decode cX0_near 25 = .ok (.getfield 58, 3) := dk_180 0 58 (dk_at dksX0_near_1 1 rfl rfl)
theorem dX0_near_28 : decode cX0_near 28 = .ok (.if_icmp .ge 124, 3) := dk_162 0 124 (dk_at dksX0_near_1 4 rfl rfl)
theorem dX0_near_31 : decode cX0_near 31 = .ok (.iconst 0, 1) := dk_3 (dk_at dksX0_near_1 7 rfl rfl)
theorem dX0_near_32 : decode cX0_near 32 = .ok (.istore 5, 2) := dk_54 5 (dk_at dksX0_near_1 8 rfl rfl)
theorem dX0_near_34 : decode cX0_near 34 = .ok (.iload 5, 2) := dk_21 5 (dk_at dksX0_near_1 10 rfl rfl)
theorem dX0_near_36 : decode cX0_near 36 = .ok (.aload_n 0, 1) := dk_42 (dk_at dksX0_near_1 12 rfl rfl)
theorem dX0_near_37 : decode cX0_near 37 = .ok (.getfield 33, 3) := dk_180 0 33 (dk_at dksX0_near_1 13 rfl rfl)
theorem dX0_near_40 : decode cX0_near 40 = .ok (.getfield 86, 3) := dk_180 0 86 (dk_at dksX0_near_1 16 rfl rfl)
theorem dX0_near_43 : decode cX0_near 43 = .ok (.if_icmp .ge 103, 3) := dk_162 0 103 (dk_at dksX0_near_1 19 rfl rfl)
theorem dX0_near_46 : decode cX0_near 46 = .ok (.aload_n 0, 1) := dk_42 (dk_at dksX0_near_1 22 rfl rfl)
theorem dX0_near_47 : decode cX0_near 47 = .ok (.getfield 33, 3) := dk_180 0 33 (dk_at dksX0_near_2 0 rfl rfl)
theorem dX0_near_50 : decode cX0_near 50 = .ok (.getfield 103, 3) := dk_180 0 103 (dk_at dksX0_near_2 3 rfl rfl)
theorem dX0_near_53 : decode cX0_near 53 = .ok (.iload 4, 2) := dk_21 4 (dk_at dksX0_near_2 6 rfl rfl)
theorem dX0_near_55 : decode cX0_near 55 = .ok (.invokestatic 209, 3) := dk_184 0 209 (dk_at dksX0_near_2 8 rfl rfl)
theorem dX0_near_58 : decode cX0_near 58 = .ok (.ifCond .ne 82, 3) := dk_154 0 82 (dk_at dksX0_near_2 11 rfl rfl)
theorem dX0_near_61 : decode cX0_near 61 = .ok (.aload_n 0, 1) := dk_42 (dk_at dksX0_near_2 14 rfl rfl)
theorem dX0_near_62 : decode cX0_near 62 = .ok (.getfield 33, 3) := dk_180 0 33 (dk_at dksX0_near_2 15 rfl rfl)
theorem dX0_near_65 : decode cX0_near 65 = .ok (.iload 5, 2) := dk_21 5 (dk_at dksX0_near_2 18 rfl rfl)
theorem dX0_near_67 : decode cX0_near 67 = .ok (.invokevirtual 191, 3) := dk_182 0 191 (dk_at dksX0_near_2 20 rfl rfl)
theorem dX0_near_70 : decode cX0_near 70 = .ok (.ifCond .ne 70, 3) := dk_154 0 70 (dk_at dksX0_near_3 0 rfl rfl)
theorem dX0_near_73 : decode cX0_near 73 = .ok (.aload_n 0, 1) := dk_42 (dk_at dksX0_near_3 3 rfl rfl)
theorem dX0_near_74 : decode cX0_near 74 = .ok (.aload_n 0, 1) := dk_42 (dk_at dksX0_near_3 4 rfl rfl)
theorem dX0_near_75 : decode cX0_near 75 = .ok (.getfield 33, 3) := dk_180 0 33 (dk_at dksX0_near_3 5 rfl rfl)
theorem dX0_near_78 : decode cX0_near 78 = .ok (.iload 5, 2) := dk_21 5 (dk_at dksX0_near_3 8 rfl rfl)
theorem dX0_near_80 : decode cX0_near 80 = .ok (.iload 4, 2) := dk_21 4 (dk_at dksX0_near_3 10 rfl rfl)
theorem dX0_near_82 : decode cX0_near 82 = .ok (.invokevirtual 213, 3) := dk_182 0 213 (dk_at dksX0_near_3 12 rfl rfl)
theorem dX0_near_85 : decode cX0_near 85 = .ok (.ifCond .eq 55, 3) := dk_153 0 55 (dk_at dksX0_near_3 15 rfl rfl)
theorem dX0_near_88 : decode cX0_near 88 = .ok (.iconst 0, 1) := dk_3 (dk_at dksX0_near_3 18 rfl rfl)
theorem dX0_near_89 : decode cX0_near 89 = .ok (.aload_n 0, 1) := dk_42 (dk_at dksX0_near_3 19 rfl rfl)
theorem dX0_near_90 : decode cX0_near 90 = .ok (.getfield 50, 3) := dk_180 0 50 (dk_at dksX0_near_3 20 rfl rfl)
theorem dX0_near_93 : decode cX0_near 93 = .ok (.iload 4, 2) := dk_21 4 (dk_at dksX0_near_4 0 rfl rfl)
theorem dX0_near_95 : decode cX0_near 95 = .ok (.aaload, 1) := dk_50 (dk_at dksX0_near_4 2 rfl rfl)
theorem dX0_near_96 : decode cX0_near 96 = .ok (.getfield 147, 3) := dk_180 0 147 (dk_at dksX0_near_4 3 rfl rfl)
theorem dX0_near_99 : decode cX0_near 99 = .ok (.aload_n 0, 1) := dk_42 (dk_at dksX0_near_4 6 rfl rfl)
theorem dX0_near_100 : decode cX0_near 100 = .ok (.getfield 33, 3) := dk_180 0 33 (dk_at dksX0_near_4 7 rfl rfl)
theorem dX0_near_103 : decode cX0_near 103 = .ok (.iload 5, 2) := dk_21 5 (dk_at dksX0_near_4 10 rfl rfl)
theorem dX0_near_105 : decode cX0_near 105 = .ok (.invokevirtual 131, 3) := dk_182 0 131 (dk_at dksX0_near_4 12 rfl rfl)
theorem dX0_near_108 : decode cX0_near 108 = .ok (.isub, 1) := dk_100 (dk_at dksX0_near_4 15 rfl rfl)
theorem dX0_near_109 : decode cX0_near 109 = .ok (.invokestatic 227, 3) := dk_184 0 227 (dk_at dksX0_near_4 16 rfl rfl)
theorem dX0_near_112 : decode cX0_near 112 = .ok (.istore 6, 2) := dk_54 6 (dk_at dksX0_near_4 19 rfl rfl)
theorem dX0_near_114 : decode cX0_near 114 = .ok (.iload 6, 2) := dk_21 6 (dk_at dksX0_near_4 21 rfl rfl)
theorem dX0_near_116 : decode cX0_near 116 = .ok (.iload_n 2, 1) := dk_28 (dk_at dksX0_near_4 23 rfl rfl)
theorem dX0_near_117 : decode cX0_near 117 = .ok (.if_icmp .ge 14, 3) := dk_162 0 14 (dk_at dksX0_near_5 0 rfl rfl)
theorem dX0_near_120 : decode cX0_near 120 = .ok (.bipush 10, 2) := dk_16 10 (dk_at dksX0_near_5 3 rfl rfl)
theorem dX0_near_122 : decode cX0_near 122 = .ok (.iload 4, 2) := dk_21 4 (dk_at dksX0_near_5 5 rfl rfl)
theorem dX0_near_124 : decode cX0_near 124 = .ok (.imul, 1) := dk_104 (dk_at dksX0_near_5 7 rfl rfl)
theorem dX0_near_125 : decode cX0_near 125 = .ok (.iload 5, 2) := dk_21 5 (dk_at dksX0_near_5 8 rfl rfl)
theorem dX0_near_127 : decode cX0_near 127 = .ok (.iadd, 1) := dk_96 (dk_at dksX0_near_5 10 rfl rfl)
theorem dX0_near_128 : decode cX0_near 128 = .ok (.goto 4, 3) := dk_167 0 4 (dk_at dksX0_near_5 11 rfl rfl)
theorem dX0_near_131 : decode cX0_near 131 = .ok (.iload_n 3, 1) := dk_29 (dk_at dksX0_near_5 14 rfl rfl)
theorem dX0_near_132 : decode cX0_near 132 = .ok (.istore_n 3, 1) := dk_62 (dk_at dksX0_near_5 15 rfl rfl)
theorem dX0_near_133 : decode cX0_near 133 = .ok (.iload_n 2, 1) := dk_28 (dk_at dksX0_near_5 16 rfl rfl)
theorem dX0_near_134 : decode cX0_near 134 = .ok (.iload 6, 2) := dk_21 6 (dk_at dksX0_near_5 17 rfl rfl)
theorem dX0_near_136 : decode cX0_near 136 = .ok (.invokestatic 285, 3) := dk_184 1 29 (dk_at dksX0_near_5 19 rfl rfl)
theorem dX0_near_139 : decode cX0_near 139 = .ok (.istore_n 2, 1) := dk_61 (dk_at dksX0_near_5 22 rfl rfl)
theorem dX0_near_140 : decode cX0_near 140 = .ok (.iinc 5 1, 3) := dk_132 5 1 (dk_at dksX0_near_6 0 rfl rfl)
theorem dX0_near_143 : decode cX0_near 143 = .ok (.goto (-109), 3) := dk_167 255 147 (dk_at dksX0_near_6 3 rfl rfl)
theorem dX0_near_146 : decode cX0_near 146 = .ok (.iinc 4 1, 3) := dk_132 4 1 (dk_at dksX0_near_6 6 rfl rfl)
theorem dX0_near_149 : decode cX0_near 149 = .ok (.goto (-127), 3) := dk_167 255 129 (dk_at dksX0_near_6 9 rfl rfl)
theorem dX0_near_152 : decode cX0_near 152 = .ok (.iload_n 3, 1) := dk_29 (dk_at dksX0_near_6 12 rfl rfl)
theorem dX0_near_153 : decode cX0_near 153 = .ok (.bipush (-4), 2) := dk_16 252 (dk_at dksX0_near_6 13 rfl rfl)
theorem dX0_near_155 : decode cX0_near 155 = .ok (.if_icmp .eq 7, 3) := dk_159 0 7 (dk_at dksX0_near_6 15 rfl rfl)
theorem dX0_near_158 : decode cX0_near 158 = .ok (.iload_n 1, 1) := dk_27 (dk_at dksX0_near_6 18 rfl rfl)
theorem dX0_near_159 : decode cX0_near 159 = .ok (.ifCond .ne 7, 3) := dk_154 0 7 (dk_at dksX0_near_6 19 rfl rfl)
theorem dX0_near_162 : decode cX0_near 162 = .ok (.iload_n 3, 1) := dk_29 (dk_at dksX0_near_6 22 rfl rfl)
theorem dX0_near_163 : decode cX0_near 163 = .ok (.goto 4, 3) := dk_167 0 4 (dk_at dksX0_near_7 0 rfl rfl)
theorem dX0_near_166 : decode cX0_near 166 = .ok (.iload_n 2, 1) := dk_28 (dk_at dksX0_near_7 3 rfl rfl)
theorem dX0_near_167 : decode cX0_near 167 = .ok (.ireturn, 1) := dk_172 (dk_at dksX0_near_7 4 rfl rfl)
abbrev cX0_keeps : ByteArray := prog_1_method_48_code
def yX0_keeps : MethodName := ⟨RX0, "keeps", "(IIII)J"⟩
def dkwX0_keeps_1 : List UInt8 := [167, 0, 6, 20, 1, 50, 173]
abbrev dktX0_keeps_1 : List UInt8 := dkwX0_keeps_1 ++ []
def dkwX0_keeps_0 : List UInt8 := [42, 27, 28, 29, 21, 4, 182, 1, 42, 153, 0, 16, 42, 27, 28, 29, 3, 21, 4, 182, 1, 46]
abbrev dktX0_keeps_0 : List UInt8 := dkwX0_keeps_0 ++ dktX0_keeps_1
theorem dksX0_keeps_0 : cX0_keeps.data.toList.drop 0 = dktX0_keeps_0 := by decide +kernel
theorem dksX0_keeps_1 : cX0_keeps.data.toList.drop 22 = dktX0_keeps_1 := dk_seg dksX0_keeps_0 22 rfl rfl
theorem dX0_keeps_0 : decode cX0_keeps 0 = .ok (.aload_n 0, 1) := dk_42 (dk_at dksX0_keeps_0 0 rfl rfl)
theorem dX0_keeps_1 : decode cX0_keeps 1 = .ok (.iload_n 1, 1) := dk_27 (dk_at dksX0_keeps_0 1 rfl rfl)
theorem dX0_keeps_2 : decode cX0_keeps 2 = .ok (.iload_n 2, 1) := dk_28 (dk_at dksX0_keeps_0 2 rfl rfl)
theorem dX0_keeps_3 : decode cX0_keeps 3 = .ok (.iload_n 3, 1) := dk_29 (dk_at dksX0_keeps_0 3 rfl rfl)
theorem dX0_keeps_4 : decode cX0_keeps 4 = .ok (.iload 4, 2) := dk_21 4 (dk_at dksX0_keeps_0 4 rfl rfl)
theorem dX0_keeps_6 : decode cX0_keeps 6 = .ok (.invokevirtual 298, 3) := dk_182 1 42 (dk_at dksX0_keeps_0 6 rfl rfl)
theorem dX0_keeps_9 : decode cX0_keeps 9 = .ok (.ifCond .eq 16, 3) := dk_153 0 16 (dk_at dksX0_keeps_0 9 rfl rfl)
theorem dX0_keeps_12 : decode cX0_keeps 12 = .ok (.aload_n 0, 1) := dk_42 (dk_at dksX0_keeps_0 12 rfl rfl)
theorem dX0_keeps_13 : decode cX0_keeps 13 = .ok (.iload_n 1, 1) := dk_27 (dk_at dksX0_keeps_0 13 rfl rfl)
theorem dX0_keeps_14 : decode cX0_keeps 14 = .ok (.iload_n 2, 1) := dk_28 (dk_at dksX0_keeps_0 14 rfl rfl)
theorem dX0_keeps_15 : decode cX0_keeps 15 = .ok (.iload_n 3, 1) := dk_29 (dk_at dksX0_keeps_0 15 rfl rfl)
theorem dX0_keeps_16 : decode cX0_keeps 16 = .ok (.iconst 0, 1) := dk_3 (dk_at dksX0_keeps_0 16 rfl rfl)
theorem dX0_keeps_17 : decode cX0_keeps 17 = .ok (.iload 4, 2) := dk_21 4 (dk_at dksX0_keeps_0 17 rfl rfl)
theorem dX0_keeps_19 : decode cX0_keeps 19 = .ok (.invokevirtual 302, 3) := dk_182 1 46 (dk_at dksX0_keeps_0 19 rfl rfl)
theorem dX0_keeps_22 : decode cX0_keeps 22 = .ok (.goto 6, 3) := dk_167 0 6 (dk_at dksX0_keeps_1 0 rfl rfl)
theorem dX0_keeps_25 : decode cX0_keeps 25 = .ok (.ldc2_w 306, 3) := dk_20 1 50 (dk_at dksX0_keeps_1 3 rfl rfl)
theorem dX0_keeps_28 : decode cX0_keeps 28 = .ok (.lreturn, 1) := dk_173 (dk_at dksX0_keeps_1 6 rfl rfl)
abbrev cX0_areFoxes : ByteArray := prog_1_method_47_code
def yX0_areFoxes : MethodName := ⟨RX0, "areFoxes", "(IIII)Z"⟩
def dkwX0_areFoxes_2 : List UInt8 := [3, 172]
abbrev dktX0_areFoxes_2 : List UInt8 := dkwX0_areFoxes_2 ++ []
def dkwX0_areFoxes_1 : List UInt8 := [20, 1, 40, 184, 0, 3, 153, 0, 18, 21, 4, 133, 9, 10, 184, 0, 3, 153, 0, 7, 4, 167, 0, 4]
abbrev dktX0_areFoxes_1 : List UInt8 := dkwX0_areFoxes_1 ++ dktX0_areFoxes_2
def dkwX0_areFoxes_0 : List UInt8 := [27, 133, 9, 20, 0, 156, 184, 0, 3, 153, 0, 38, 42, 28, 182, 0, 119, 153, 0, 30, 29, 133, 9]
abbrev dktX0_areFoxes_0 : List UInt8 := dkwX0_areFoxes_0 ++ dktX0_areFoxes_1
theorem dksX0_areFoxes_0 : cX0_areFoxes.data.toList.drop 0 = dktX0_areFoxes_0 := by decide +kernel
theorem dksX0_areFoxes_1 : cX0_areFoxes.data.toList.drop 23 = dktX0_areFoxes_1 := dk_seg dksX0_areFoxes_0 23 rfl rfl
theorem dksX0_areFoxes_2 : cX0_areFoxes.data.toList.drop 47 = dktX0_areFoxes_2 := dk_seg dksX0_areFoxes_1 24 rfl rfl
theorem dX0_areFoxes_0 : decode cX0_areFoxes 0 = .ok (.iload_n 1, 1) := dk_27 (dk_at dksX0_areFoxes_0 0 rfl rfl)
theorem dX0_areFoxes_1 : decode cX0_areFoxes 1 = .ok (.i2l, 1) := dk_133 (dk_at dksX0_areFoxes_0 1 rfl rfl)
theorem dX0_areFoxes_2 : decode cX0_areFoxes 2 = .ok (.lconst 0, 1) := dk_9 (dk_at dksX0_areFoxes_0 2 rfl rfl)
theorem dX0_areFoxes_3 : decode cX0_areFoxes 3 = .ok (.ldc2_w 156, 3) := dk_20 0 156 (dk_at dksX0_areFoxes_0 3 rfl rfl)
theorem dX0_areFoxes_6 : decode cX0_areFoxes 6 = .ok (.invokestatic 3, 3) := dk_184 0 3 (dk_at dksX0_areFoxes_0 6 rfl rfl)
theorem dX0_areFoxes_9 : decode cX0_areFoxes 9 = .ok (.ifCond .eq 38, 3) := dk_153 0 38 (dk_at dksX0_areFoxes_0 9 rfl rfl)
theorem dX0_areFoxes_12 : decode cX0_areFoxes 12 = .ok (.aload_n 0, 1) := dk_42 (dk_at dksX0_areFoxes_0 12 rfl rfl)
theorem dX0_areFoxes_13 : decode cX0_areFoxes 13 = .ok (.iload_n 2, 1) := dk_28 (dk_at dksX0_areFoxes_0 13 rfl rfl)
theorem dX0_areFoxes_14 : decode cX0_areFoxes 14 = .ok (.invokevirtual 119, 3) := dk_182 0 119 (dk_at dksX0_areFoxes_0 14 rfl rfl)
theorem dX0_areFoxes_17 : decode cX0_areFoxes 17 = .ok (.ifCond .eq 30, 3) := dk_153 0 30 (dk_at dksX0_areFoxes_0 17 rfl rfl)
theorem dX0_areFoxes_20 : decode cX0_areFoxes 20 = .ok (.iload_n 3, 1) := dk_29 (dk_at dksX0_areFoxes_0 20 rfl rfl)
theorem dX0_areFoxes_21 : decode cX0_areFoxes 21 = .ok (.i2l, 1) := dk_133 (dk_at dksX0_areFoxes_0 21 rfl rfl)
theorem dX0_areFoxes_22 : decode cX0_areFoxes 22 = .ok (.lconst 0, 1) := dk_9 (dk_at dksX0_areFoxes_0 22 rfl rfl)
theorem dX0_areFoxes_23 : decode cX0_areFoxes 23 = .ok (.ldc2_w 296, 3) := dk_20 1 40 (dk_at dksX0_areFoxes_1 0 rfl rfl)
theorem dX0_areFoxes_26 : decode cX0_areFoxes 26 = .ok (.invokestatic 3, 3) := dk_184 0 3 (dk_at dksX0_areFoxes_1 3 rfl rfl)
theorem dX0_areFoxes_29 : decode cX0_areFoxes 29 = .ok (.ifCond .eq 18, 3) := dk_153 0 18 (dk_at dksX0_areFoxes_1 6 rfl rfl)
theorem dX0_areFoxes_32 : decode cX0_areFoxes 32 = .ok (.iload 4, 2) := dk_21 4 (dk_at dksX0_areFoxes_1 9 rfl rfl)
theorem dX0_areFoxes_34 : decode cX0_areFoxes 34 = .ok (.i2l, 1) := dk_133 (dk_at dksX0_areFoxes_1 11 rfl rfl)
theorem dX0_areFoxes_35 : decode cX0_areFoxes 35 = .ok (.lconst 0, 1) := dk_9 (dk_at dksX0_areFoxes_1 12 rfl rfl)
theorem dX0_areFoxes_36 : decode cX0_areFoxes 36 = .ok (.lconst 1, 1) := dk_10 (dk_at dksX0_areFoxes_1 13 rfl rfl)
theorem dX0_areFoxes_37 : decode cX0_areFoxes 37 = .ok (.invokestatic 3, 3) := dk_184 0 3 (dk_at dksX0_areFoxes_1 14 rfl rfl)
theorem dX0_areFoxes_40 : decode cX0_areFoxes 40 = .ok (.ifCond .eq 7, 3) := dk_153 0 7 (dk_at dksX0_areFoxes_1 17 rfl rfl)
theorem dX0_areFoxes_43 : decode cX0_areFoxes 43 = .ok (.iconst 1, 1) := dk_4 (dk_at dksX0_areFoxes_1 20 rfl rfl)
theorem dX0_areFoxes_44 : decode cX0_areFoxes 44 = .ok (.goto 4, 3) := dk_167 0 4 (dk_at dksX0_areFoxes_1 21 rfl rfl)
theorem dX0_areFoxes_47 : decode cX0_areFoxes 47 = .ok (.iconst 0, 1) := dk_3 (dk_at dksX0_areFoxes_2 0 rfl rfl)
theorem dX0_areFoxes_48 : decode cX0_areFoxes 48 = .ok (.ireturn, 1) := dk_172 (dk_at dksX0_areFoxes_2 1 rfl rfl)
abbrev cX0_byFox : ByteArray := prog_1_method_46_code
def yX0_byFox : MethodName := ⟨RX0, "byFox", "(IIIZI)J"⟩
def dkwX0_byFox_6 : List UInt8 := [22, 8, 21, 5, 184, 1, 36, 173]
abbrev dktX0_byFox_6 : List UInt8 := dkwX0_byFox_6 ++ []
def dkwX0_byFox_5 : List UInt8 := [55, 12, 132, 14, 1, 167, 255, 222, 22, 6, 22, 12, 97, 55, 6, 132, 10, 1, 167, 255, 154, 22, 6]
abbrev dktX0_byFox_5 : List UInt8 := dkwX0_byFox_5 ++ dktX0_byFox_6
def dkwX0_byFox_4 : List UInt8 := [22, 12, 21, 10, 21, 14, 184, 0, 209, 153, 0, 8, 27, 133, 167, 0, 8, 16, 10, 27, 100, 133, 105]
abbrev dktX0_byFox_4 : List UInt8 := dkwX0_byFox_4 ++ dktX0_byFox_5
def dkwX0_byFox_3 : List UInt8 := [167, 0, 13, 21, 11, 158, 0, 7, 10, 167, 0, 4, 9, 55, 12, 3, 54, 14, 21, 14, 29, 162, 0, 34]
abbrev dktX0_byFox_3 : List UInt8 := dkwX0_byFox_3 ++ dktX0_byFox_4
def dkwX0_byFox_2 : List UInt8 := [180, 0, 134, 28, 46, 21, 10, 184, 0, 161, 100, 184, 0, 227, 54, 11, 21, 4, 153, 0, 9, 21, 11, 133]
abbrev dktX0_byFox_2 : List UInt8 := dkwX0_byFox_2 ++ dktX0_byFox_3
def dkwX0_byFox_1 : List UInt8 := [132, 10, 1, 167, 255, 239, 3, 54, 10, 21, 10, 4, 29, 120, 162, 0, 100, 3, 42, 180, 0, 33]
abbrev dktX0_byFox_1 : List UInt8 := dkwX0_byFox_1 ++ dktX0_byFox_2
def dkwX0_byFox_0 : List UInt8 := [9, 55, 6, 10, 55, 8, 3, 54, 10, 21, 10, 29, 162, 0, 17, 22, 8, 20, 0, 156, 105, 55, 8]
abbrev dktX0_byFox_0 : List UInt8 := dkwX0_byFox_0 ++ dktX0_byFox_1
theorem dksX0_byFox_0 : cX0_byFox.data.toList.drop 0 = dktX0_byFox_0 := by decide +kernel
theorem dksX0_byFox_1 : cX0_byFox.data.toList.drop 23 = dktX0_byFox_1 := dk_seg dksX0_byFox_0 23 rfl rfl
theorem dksX0_byFox_2 : cX0_byFox.data.toList.drop 45 = dktX0_byFox_2 := dk_seg dksX0_byFox_1 22 rfl rfl
theorem dksX0_byFox_3 : cX0_byFox.data.toList.drop 69 = dktX0_byFox_3 := dk_seg dksX0_byFox_2 24 rfl rfl
theorem dksX0_byFox_4 : cX0_byFox.data.toList.drop 93 = dktX0_byFox_4 := dk_seg dksX0_byFox_3 24 rfl rfl
theorem dksX0_byFox_5 : cX0_byFox.data.toList.drop 116 = dktX0_byFox_5 := dk_seg dksX0_byFox_4 23 rfl rfl
theorem dksX0_byFox_6 : cX0_byFox.data.toList.drop 139 = dktX0_byFox_6 := dk_seg dksX0_byFox_5 23 rfl rfl
theorem dX0_byFox_0 : decode cX0_byFox 0 = .ok (.lconst 0, 1) := dk_9 (dk_at dksX0_byFox_0 0 rfl rfl)
theorem dX0_byFox_1 : decode cX0_byFox 1 = .ok (.lstore 6, 2) := dk_55 6 (dk_at dksX0_byFox_0 1 rfl rfl)
theorem dX0_byFox_3 : decode cX0_byFox 3 = .ok (.lconst 1, 1) := dk_10 (dk_at dksX0_byFox_0 3 rfl rfl)
theorem dX0_byFox_4 : decode cX0_byFox 4 = .ok (.lstore 8, 2) := dk_55 8 (dk_at dksX0_byFox_0 4 rfl rfl)
theorem dX0_byFox_6 : decode cX0_byFox 6 = .ok (.iconst 0, 1) := dk_3 (dk_at dksX0_byFox_0 6 rfl rfl)
theorem dX0_byFox_7 : decode cX0_byFox 7 = .ok (.istore 10, 2) := dk_54 10 (dk_at dksX0_byFox_0 7 rfl rfl)
theorem dX0_byFox_9 : decode cX0_byFox 9 = .ok (.iload 10, 2) := dk_21 10 (dk_at dksX0_byFox_0 9 rfl rfl)
theorem dX0_byFox_11 : decode cX0_byFox 11 = .ok (.iload_n 3, 1) := dk_29 (dk_at dksX0_byFox_0 11 rfl rfl)
theorem dX0_byFox_12 : decode cX0_byFox 12 = .ok (.if_icmp .ge 17, 3) := dk_162 0 17 (dk_at dksX0_byFox_0 12 rfl rfl)
theorem dX0_byFox_15 : decode cX0_byFox 15 = .ok (.lload 8, 2) := dk_22 8 (dk_at dksX0_byFox_0 15 rfl rfl)
theorem dX0_byFox_17 : decode cX0_byFox 17 = .ok (.ldc2_w 156, 3) := dk_20 0 156 (dk_at dksX0_byFox_0 17 rfl rfl)
theorem dX0_byFox_20 : decode cX0_byFox 20 = .ok (.lmul, 1) := dk_105 (dk_at dksX0_byFox_0 20 rfl rfl)
theorem dX0_byFox_21 : decode cX0_byFox 21 = .ok (.lstore 8, 2) := dk_55 8 (dk_at dksX0_byFox_0 21 rfl rfl)
theorem dX0_byFox_23 : decode cX0_byFox 23 = .ok (.iinc 10 1, 3) := dk_132 10 1 (dk_at dksX0_byFox_1 0 rfl rfl)
theorem dX0_byFox_26 : decode cX0_byFox 26 = .ok (.goto (-17), 3) := dk_167 255 239 (dk_at dksX0_byFox_1 3 rfl rfl)
theorem dX0_byFox_29 : decode cX0_byFox 29 = .ok (.iconst 0, 1) := dk_3 (dk_at dksX0_byFox_1 6 rfl rfl)
theorem dX0_byFox_30 : decode cX0_byFox 30 = .ok (.istore 10, 2) := dk_54 10 (dk_at dksX0_byFox_1 7 rfl rfl)
theorem dX0_byFox_32 : decode cX0_byFox 32 = .ok (.iload 10, 2) := dk_21 10 (dk_at dksX0_byFox_1 9 rfl rfl)
theorem dX0_byFox_34 : decode cX0_byFox 34 = .ok (.iconst 1, 1) := dk_4 (dk_at dksX0_byFox_1 11 rfl rfl)
theorem dX0_byFox_35 : decode cX0_byFox 35 = .ok (.iload_n 3, 1) := dk_29 (dk_at dksX0_byFox_1 12 rfl rfl)
theorem dX0_byFox_36 : decode cX0_byFox 36 = .ok (.ishl, 1) := dk_120 (dk_at dksX0_byFox_1 13 rfl rfl)
theorem dX0_byFox_37 : decode cX0_byFox 37 = .ok (.if_icmp .ge 100, 3) := dk_162 0 100 (dk_at dksX0_byFox_1 14 rfl rfl)
theorem dX0_byFox_40 : decode cX0_byFox 40 = .ok (.iconst 0, 1) := dk_3 (dk_at dksX0_byFox_1 17 rfl rfl)
theorem dX0_byFox_41 : decode cX0_byFox 41 = .ok (.aload_n 0, 1) := dk_42 (dk_at dksX0_byFox_1 18 rfl rfl)
theorem dX0_byFox_42 : decode cX0_byFox 42 = .ok (.getfield 33, 3) := dk_180 0 33 (dk_at dksX0_byFox_1 19 rfl rfl)
theorem dX0_byFox_45 : decode cX0_byFox 45 = .ok (.getfield 134, 3) := dk_180 0 134 (dk_at dksX0_byFox_2 0 rfl rfl)
theorem dX0_byFox_48 : decode cX0_byFox 48 = .ok (.iload_n 2, 1) := dk_28 (dk_at dksX0_byFox_2 3 rfl rfl)
theorem dX0_byFox_49 : decode cX0_byFox 49 = .ok (.iaload, 1) := dk_46 (dk_at dksX0_byFox_2 4 rfl rfl)
theorem dX0_byFox_50 : decode cX0_byFox 50 = .ok (.iload 10, 2) := dk_21 10 (dk_at dksX0_byFox_2 5 rfl rfl)
theorem dX0_byFox_52 : decode cX0_byFox 52 = .ok (.invokestatic 161, 3) := dk_184 0 161 (dk_at dksX0_byFox_2 7 rfl rfl)
theorem dX0_byFox_55 : decode cX0_byFox 55 = .ok (.isub, 1) := dk_100 (dk_at dksX0_byFox_2 10 rfl rfl)
theorem dX0_byFox_56 : decode cX0_byFox 56 = .ok (.invokestatic 227, 3) := dk_184 0 227 (dk_at dksX0_byFox_2 11 rfl rfl)
theorem dX0_byFox_59 : decode cX0_byFox 59 = .ok (.istore 11, 2) := dk_54 11 (dk_at dksX0_byFox_2 14 rfl rfl)
theorem dX0_byFox_61 : decode cX0_byFox 61 = .ok (.iload 4, 2) := dk_21 4 (dk_at dksX0_byFox_2 16 rfl rfl)
theorem dX0_byFox_63 : decode cX0_byFox 63 = .ok (.ifCond .eq 9, 3) := dk_153 0 9 (dk_at dksX0_byFox_2 18 rfl rfl)
theorem dX0_byFox_66 : decode cX0_byFox 66 = .ok (.iload 11, 2) := dk_21 11 (dk_at dksX0_byFox_2 21 rfl rfl)
theorem dX0_byFox_68 : decode cX0_byFox 68 = .ok (.i2l, 1) := dk_133 (dk_at dksX0_byFox_2 23 rfl rfl)
theorem dX0_byFox_69 : decode cX0_byFox 69 = .ok (.goto 13, 3) := dk_167 0 13 (dk_at dksX0_byFox_3 0 rfl rfl)
theorem dX0_byFox_72 : decode cX0_byFox 72 = .ok (.iload 11, 2) := dk_21 11 (dk_at dksX0_byFox_3 3 rfl rfl)
theorem dX0_byFox_74 : decode cX0_byFox 74 = .ok (.ifCond .le 7, 3) := dk_158 0 7 (dk_at dksX0_byFox_3 5 rfl rfl)
theorem dX0_byFox_77 : decode cX0_byFox 77 = .ok (.lconst 1, 1) := dk_10 (dk_at dksX0_byFox_3 8 rfl rfl)
theorem dX0_byFox_78 : decode cX0_byFox 78 = .ok (.goto 4, 3) := dk_167 0 4 (dk_at dksX0_byFox_3 9 rfl rfl)
theorem dX0_byFox_81 : decode cX0_byFox 81 = .ok (.lconst 0, 1) := dk_9 (dk_at dksX0_byFox_3 12 rfl rfl)
theorem dX0_byFox_82 : decode cX0_byFox 82 = .ok (.lstore 12, 2) := dk_55 12 (dk_at dksX0_byFox_3 13 rfl rfl)
theorem dX0_byFox_84 : decode cX0_byFox 84 = .ok (.iconst 0, 1) := dk_3 (dk_at dksX0_byFox_3 15 rfl rfl)
theorem dX0_byFox_85 : decode cX0_byFox 85 = .ok (.istore 14, 2) := dk_54 14 (dk_at dksX0_byFox_3 16 rfl rfl)
theorem dX0_byFox_87 : decode cX0_byFox 87 = .ok (.iload 14, 2) := dk_21 14 (dk_at dksX0_byFox_3 18 rfl rfl)
theorem dX0_byFox_89 : decode cX0_byFox 89 = .ok (.iload_n 3, 1) := dk_29 (dk_at dksX0_byFox_3 20 rfl rfl)
theorem dX0_byFox_90 : decode cX0_byFox 90 = .ok (.if_icmp .ge 34, 3) := dk_162 0 34 (dk_at dksX0_byFox_3 21 rfl rfl)
theorem dX0_byFox_93 : decode cX0_byFox 93 = .ok (.lload 12, 2) := dk_22 12 (dk_at dksX0_byFox_4 0 rfl rfl)
theorem dX0_byFox_95 : decode cX0_byFox 95 = .ok (.iload 10, 2) := dk_21 10 (dk_at dksX0_byFox_4 2 rfl rfl)
theorem dX0_byFox_97 : decode cX0_byFox 97 = .ok (.iload 14, 2) := dk_21 14 (dk_at dksX0_byFox_4 4 rfl rfl)
theorem dX0_byFox_99 : decode cX0_byFox 99 = .ok (.invokestatic 209, 3) := dk_184 0 209 (dk_at dksX0_byFox_4 6 rfl rfl)
theorem dX0_byFox_102 : decode cX0_byFox 102 = .ok (.ifCond .eq 8, 3) := dk_153 0 8 (dk_at dksX0_byFox_4 9 rfl rfl)
theorem dX0_byFox_105 : decode cX0_byFox 105 = .ok (.iload_n 1, 1) := dk_27 (dk_at dksX0_byFox_4 12 rfl rfl)
theorem dX0_byFox_106 : decode cX0_byFox 106 = .ok (.i2l, 1) := dk_133 (dk_at dksX0_byFox_4 13 rfl rfl)
theorem dX0_byFox_107 : decode cX0_byFox 107 = .ok (.goto 8, 3) := dk_167 0 8 (dk_at dksX0_byFox_4 14 rfl rfl)
theorem dX0_byFox_110 : decode cX0_byFox 110 = .ok (.bipush 10, 2) := dk_16 10 (dk_at dksX0_byFox_4 17 rfl rfl)
theorem dX0_byFox_112 : decode cX0_byFox 112 = .ok (.iload_n 1, 1) := dk_27 (dk_at dksX0_byFox_4 19 rfl rfl)
theorem dX0_byFox_113 : decode cX0_byFox 113 = .ok (.isub, 1) := dk_100 (dk_at dksX0_byFox_4 20 rfl rfl)
theorem dX0_byFox_114 : decode cX0_byFox 114 = .ok (.i2l, 1) := dk_133 (dk_at dksX0_byFox_4 21 rfl rfl)
theorem dX0_byFox_115 : decode cX0_byFox 115 = .ok (.lmul, 1) := dk_105 (dk_at dksX0_byFox_4 22 rfl rfl)
theorem dX0_byFox_116 : decode cX0_byFox 116 = .ok (.lstore 12, 2) := dk_55 12 (dk_at dksX0_byFox_5 0 rfl rfl)
theorem dX0_byFox_118 : decode cX0_byFox 118 = .ok (.iinc 14 1, 3) := dk_132 14 1 (dk_at dksX0_byFox_5 2 rfl rfl)
theorem dX0_byFox_121 : decode cX0_byFox 121 = .ok (.goto (-34), 3) := dk_167 255 222 (dk_at dksX0_byFox_5 5 rfl rfl)
theorem dX0_byFox_124 : decode cX0_byFox 124 = .ok (.lload 6, 2) := dk_22 6 (dk_at dksX0_byFox_5 8 rfl rfl)
theorem dX0_byFox_126 : decode cX0_byFox 126 = .ok (.lload 12, 2) := dk_22 12 (dk_at dksX0_byFox_5 10 rfl rfl)
theorem dX0_byFox_128 : decode cX0_byFox 128 = .ok (.ladd, 1) := dk_97 (dk_at dksX0_byFox_5 12 rfl rfl)
theorem dX0_byFox_129 : decode cX0_byFox 129 = .ok (.lstore 6, 2) := dk_55 6 (dk_at dksX0_byFox_5 13 rfl rfl)
theorem dX0_byFox_131 : decode cX0_byFox 131 = .ok (.iinc 10 1, 3) := dk_132 10 1 (dk_at dksX0_byFox_5 15 rfl rfl)
theorem dX0_byFox_134 : decode cX0_byFox 134 = .ok (.goto (-102), 3) := dk_167 255 154 (dk_at dksX0_byFox_5 18 rfl rfl)
theorem dX0_byFox_137 : decode cX0_byFox 137 = .ok (.lload 6, 2) := dk_22 6 (dk_at dksX0_byFox_5 21 rfl rfl)
theorem dX0_byFox_139 : decode cX0_byFox 139 = .ok (.lload 8, 2) := dk_22 8 (dk_at dksX0_byFox_6 0 rfl rfl)
theorem dX0_byFox_141 : decode cX0_byFox 141 = .ok (.iload 5, 2) := dk_21 5 (dk_at dksX0_byFox_6 2 rfl rfl)
theorem dX0_byFox_143 : decode cX0_byFox 143 = .ok (.invokestatic 292, 3) := dk_184 1 36 (dk_at dksX0_byFox_6 4 rfl rfl)
theorem dX0_byFox_146 : decode cX0_byFox 146 = .ok (.lreturn, 1) := dk_173 (dk_at dksX0_byFox_6 7 rfl rfl)
abbrev cX0_lowest : ByteArray := prog_1_method_45_code
def yX0_lowest : MethodName := ⟨RX0, "lowest", "(JJI)J"⟩
def dkwX0_lowest_0 : List UInt8 := [21, 4, 154, 0, 7, 30, 167, 0, 4, 32, 30, 32, 184, 1, 32, 109, 173]
abbrev dktX0_lowest_0 : List UInt8 := dkwX0_lowest_0 ++ []
theorem dksX0_lowest_0 : cX0_lowest.data.toList.drop 0 = dktX0_lowest_0 := by decide +kernel
theorem dX0_lowest_0 : decode cX0_lowest 0 = .ok (.iload 4, 2) := dk_21 4 (dk_at dksX0_lowest_0 0 rfl rfl)
theorem dX0_lowest_2 : decode cX0_lowest 2 = .ok (.ifCond .ne 7, 3) := dk_154 0 7 (dk_at dksX0_lowest_0 2 rfl rfl)
theorem dX0_lowest_5 : decode cX0_lowest 5 = .ok (.lload_n 0, 1) := dk_30 (dk_at dksX0_lowest_0 5 rfl rfl)
theorem dX0_lowest_6 : decode cX0_lowest 6 = .ok (.goto 4, 3) := dk_167 0 4 (dk_at dksX0_lowest_0 6 rfl rfl)
theorem dX0_lowest_9 : decode cX0_lowest 9 = .ok (.lload_n 2, 1) := dk_32 (dk_at dksX0_lowest_0 9 rfl rfl)
theorem dX0_lowest_10 : decode cX0_lowest 10 = .ok (.lload_n 0, 1) := dk_30 (dk_at dksX0_lowest_0 10 rfl rfl)
theorem dX0_lowest_11 : decode cX0_lowest 11 = .ok (.lload_n 2, 1) := dk_32 (dk_at dksX0_lowest_0 11 rfl rfl)
theorem dX0_lowest_12 : decode cX0_lowest 12 = .ok (.invokestatic 288, 3) := dk_184 1 32 (dk_at dksX0_lowest_0 12 rfl rfl)
theorem dX0_lowest_15 : decode cX0_lowest 15 = .ok (.ldiv, 1) := dk_109 (dk_at dksX0_lowest_0 15 rfl rfl)
theorem dX0_lowest_16 : decode cX0_lowest 16 = .ok (.lreturn, 1) := dk_173 (dk_at dksX0_lowest_0 16 rfl rfl)
abbrev cX0_divisor : ByteArray := prog_1_method_44_code
def yX0_divisor : MethodName := ⟨RX0, "divisor", "(JJ)J"⟩
def dkwX0_divisor_0 : List UInt8 := [32, 9, 148, 154, 0, 7, 30, 167, 0, 10, 32, 30, 32, 113, 184, 1, 32, 173]
abbrev dktX0_divisor_0 : List UInt8 := dkwX0_divisor_0 ++ []
theorem dksX0_divisor_0 : cX0_divisor.data.toList.drop 0 = dktX0_divisor_0 := by decide +kernel
theorem dX0_divisor_0 : decode cX0_divisor 0 = .ok (.lload_n 2, 1) := dk_32 (dk_at dksX0_divisor_0 0 rfl rfl)
theorem dX0_divisor_1 : decode cX0_divisor 1 = .ok (.lconst 0, 1) := dk_9 (dk_at dksX0_divisor_0 1 rfl rfl)
theorem dX0_divisor_2 : decode cX0_divisor 2 = .ok (.lcmp, 1) := dk_148 (dk_at dksX0_divisor_0 2 rfl rfl)
theorem dX0_divisor_3 : decode cX0_divisor 3 = .ok (.ifCond .ne 7, 3) := dk_154 0 7 (dk_at dksX0_divisor_0 3 rfl rfl)
theorem dX0_divisor_6 : decode cX0_divisor 6 = .ok (.lload_n 0, 1) := dk_30 (dk_at dksX0_divisor_0 6 rfl rfl)
theorem dX0_divisor_7 : decode cX0_divisor 7 = .ok (.goto 10, 3) := dk_167 0 10 (dk_at dksX0_divisor_0 7 rfl rfl)
theorem dX0_divisor_10 : decode cX0_divisor 10 = .ok (.lload_n 2, 1) := dk_32 (dk_at dksX0_divisor_0 10 rfl rfl)
theorem dX0_divisor_11 : decode cX0_divisor 11 = .ok (.lload_n 0, 1) := dk_30 (dk_at dksX0_divisor_0 11 rfl rfl)
theorem dX0_divisor_12 : decode cX0_divisor 12 = .ok (.lload_n 2, 1) := dk_32 (dk_at dksX0_divisor_0 12 rfl rfl)
theorem dX0_divisor_13 : decode cX0_divisor 13 = .ok (.lrem, 1) := dk_113 (dk_at dksX0_divisor_0 13 rfl rfl)
theorem dX0_divisor_14 : decode cX0_divisor 14 = .ok (.invokestatic 288, 3) := dk_184 1 32 (dk_at dksX0_divisor_0 14 rfl rfl)
theorem dX0_divisor_17 : decode cX0_divisor 17 = .ok (.lreturn, 1) := dk_173 (dk_at dksX0_divisor_0 17 rfl rfl)
abbrev cX0_mean : ByteArray := prog_1_method_49_code
def yX0_mean : MethodName := ⟨RX0, "mean", "(IIII)J"⟩
def dkwX0_mean_1 : List UInt8 := [167, 0, 6, 20, 1, 50, 173]
abbrev dktX0_mean_1 : List UInt8 := dkwX0_mean_1 ++ []
def dkwX0_mean_0 : List UInt8 := [42, 27, 28, 29, 21, 4, 182, 1, 42, 153, 0, 16, 42, 27, 28, 29, 4, 21, 4, 182, 1, 46]
abbrev dktX0_mean_0 : List UInt8 := dkwX0_mean_0 ++ dktX0_mean_1
theorem dksX0_mean_0 : cX0_mean.data.toList.drop 0 = dktX0_mean_0 := by decide +kernel
theorem dksX0_mean_1 : cX0_mean.data.toList.drop 22 = dktX0_mean_1 := dk_seg dksX0_mean_0 22 rfl rfl
theorem dX0_mean_0 : decode cX0_mean 0 = .ok (.aload_n 0, 1) := dk_42 (dk_at dksX0_mean_0 0 rfl rfl)
theorem dX0_mean_1 : decode cX0_mean 1 = .ok (.iload_n 1, 1) := dk_27 (dk_at dksX0_mean_0 1 rfl rfl)
theorem dX0_mean_2 : decode cX0_mean 2 = .ok (.iload_n 2, 1) := dk_28 (dk_at dksX0_mean_0 2 rfl rfl)
theorem dX0_mean_3 : decode cX0_mean 3 = .ok (.iload_n 3, 1) := dk_29 (dk_at dksX0_mean_0 3 rfl rfl)
theorem dX0_mean_4 : decode cX0_mean 4 = .ok (.iload 4, 2) := dk_21 4 (dk_at dksX0_mean_0 4 rfl rfl)
theorem dX0_mean_6 : decode cX0_mean 6 = .ok (.invokevirtual 298, 3) := dk_182 1 42 (dk_at dksX0_mean_0 6 rfl rfl)
theorem dX0_mean_9 : decode cX0_mean 9 = .ok (.ifCond .eq 16, 3) := dk_153 0 16 (dk_at dksX0_mean_0 9 rfl rfl)
theorem dX0_mean_12 : decode cX0_mean 12 = .ok (.aload_n 0, 1) := dk_42 (dk_at dksX0_mean_0 12 rfl rfl)
theorem dX0_mean_13 : decode cX0_mean 13 = .ok (.iload_n 1, 1) := dk_27 (dk_at dksX0_mean_0 13 rfl rfl)
theorem dX0_mean_14 : decode cX0_mean 14 = .ok (.iload_n 2, 1) := dk_28 (dk_at dksX0_mean_0 14 rfl rfl)
theorem dX0_mean_15 : decode cX0_mean 15 = .ok (.iload_n 3, 1) := dk_29 (dk_at dksX0_mean_0 15 rfl rfl)
theorem dX0_mean_16 : decode cX0_mean 16 = .ok (.iconst 1, 1) := dk_4 (dk_at dksX0_mean_0 16 rfl rfl)
theorem dX0_mean_17 : decode cX0_mean 17 = .ok (.iload 4, 2) := dk_21 4 (dk_at dksX0_mean_0 17 rfl rfl)
theorem dX0_mean_19 : decode cX0_mean 19 = .ok (.invokevirtual 302, 3) := dk_182 1 46 (dk_at dksX0_mean_0 19 rfl rfl)
theorem dX0_mean_22 : decode cX0_mean 22 = .ok (.goto 6, 3) := dk_167 0 6 (dk_at dksX0_mean_1 0 rfl rfl)
theorem dX0_mean_25 : decode cX0_mean 25 = .ok (.ldc2_w 306, 3) := dk_20 1 50 (dk_at dksX0_mean_1 3 rfl rfl)
theorem dX0_mean_28 : decode cX0_mean 28 = .ok (.lreturn, 1) := dk_173 (dk_at dksX0_mean_1 6 rfl rfl)
abbrev cX0_see : ByteArray := prog_1_method_50_code
def yX0_see : MethodName := ⟨RX0, "see", "(III)I"⟩
def dkwX0_see_4 : List UInt8 := [180, 0, 59, 172]
abbrev dktX0_see_4 : List UInt8 := dkwX0_see_4 ++ []
def dkwX0_see_3 : List UInt8 := [180, 1, 54, 42, 180, 0, 59, 50, 5, 29, 79, 42, 89, 180, 0, 59, 4, 96, 181, 0, 59, 42]
abbrev dktX0_see_3 : List UInt8 := dkwX0_see_3 ++ dktX0_see_4
def dkwX0_see_2 : List UInt8 := [180, 1, 54, 42, 180, 0, 59, 50, 3, 27, 79, 42, 180, 1, 54, 42, 180, 0, 59, 50, 4, 28, 79, 42]
abbrev dktX0_see_2 : List UInt8 := dkwX0_see_2 ++ dktX0_see_3
def dkwX0_see_1 : List UInt8 := [20, 1, 52, 184, 0, 3, 154, 0, 5, 2, 172, 42, 180, 0, 59, 16, 6, 160, 0, 6, 16, 253, 172, 42]
abbrev dktX0_see_1 : List UInt8 := dkwX0_see_1 ++ dktX0_see_2
def dkwX0_see_0 : List UInt8 := [42, 27, 182, 0, 106, 153, 0, 27, 28, 133, 9, 20, 0, 187, 184, 0, 3, 153, 0, 15, 29, 133, 9]
abbrev dktX0_see_0 : List UInt8 := dkwX0_see_0 ++ dktX0_see_1
theorem dksX0_see_0 : cX0_see.data.toList.drop 0 = dktX0_see_0 := by decide +kernel
theorem dksX0_see_1 : cX0_see.data.toList.drop 23 = dktX0_see_1 := dk_seg dksX0_see_0 23 rfl rfl
theorem dksX0_see_2 : cX0_see.data.toList.drop 47 = dktX0_see_2 := dk_seg dksX0_see_1 24 rfl rfl
theorem dksX0_see_3 : cX0_see.data.toList.drop 71 = dktX0_see_3 := dk_seg dksX0_see_2 24 rfl rfl
theorem dksX0_see_4 : cX0_see.data.toList.drop 93 = dktX0_see_4 := dk_seg dksX0_see_3 22 rfl rfl
theorem dX0_see_0 : decode cX0_see 0 = .ok (.aload_n 0, 1) := dk_42 (dk_at dksX0_see_0 0 rfl rfl)
theorem dX0_see_1 : decode cX0_see 1 = .ok (.iload_n 1, 1) := dk_27 (dk_at dksX0_see_0 1 rfl rfl)
theorem dX0_see_2 : decode cX0_see 2 = .ok (.invokevirtual 106, 3) := dk_182 0 106 (dk_at dksX0_see_0 2 rfl rfl)
theorem dX0_see_5 : decode cX0_see 5 = .ok (.ifCond .eq 27, 3) := dk_153 0 27 (dk_at dksX0_see_0 5 rfl rfl)
theorem dX0_see_8 : decode cX0_see 8 = .ok (.iload_n 2, 1) := dk_28 (dk_at dksX0_see_0 8 rfl rfl)
theorem dX0_see_9 : decode cX0_see 9 = .ok (.i2l, 1) := dk_133 (dk_at dksX0_see_0 9 rfl rfl)
theorem dX0_see_10 : decode cX0_see 10 = .ok (.lconst 0, 1) := dk_9 (dk_at dksX0_see_0 10 rfl rfl)
theorem dX0_see_11 : decode cX0_see 11 = .ok (.ldc2_w 187, 3) := dk_20 0 187 (dk_at dksX0_see_0 11 rfl rfl)
theorem dX0_see_14 : decode cX0_see 14 = .ok (.invokestatic 3, 3) := dk_184 0 3 (dk_at dksX0_see_0 14 rfl rfl)
theorem dX0_see_17 : decode cX0_see 17 = .ok (.ifCond .eq 15, 3) := dk_153 0 15 (dk_at dksX0_see_0 17 rfl rfl)
theorem dX0_see_20 : decode cX0_see 20 = .ok (.iload_n 3, 1) := dk_29 (dk_at dksX0_see_0 20 rfl rfl)
theorem dX0_see_21 : decode cX0_see 21 = .ok (.i2l, 1) := dk_133 (dk_at dksX0_see_0 21 rfl rfl)
theorem dX0_see_22 : decode cX0_see 22 = .ok (.lconst 0, 1) := dk_9 (dk_at dksX0_see_0 22 rfl rfl)
theorem dX0_see_23 : decode cX0_see 23 = .ok (.ldc2_w 308, 3) := dk_20 1 52 (dk_at dksX0_see_1 0 rfl rfl)
theorem dX0_see_26 : decode cX0_see 26 = .ok (.invokestatic 3, 3) := dk_184 0 3 (dk_at dksX0_see_1 3 rfl rfl)
theorem dX0_see_29 : decode cX0_see 29 = .ok (.ifCond .ne 5, 3) := dk_154 0 5 (dk_at dksX0_see_1 6 rfl rfl)
theorem dX0_see_32 : decode cX0_see 32 = .ok (.iconst (-1), 1) := dk_2 (dk_at dksX0_see_1 9 rfl rfl)
theorem dX0_see_33 : decode cX0_see 33 = .ok (.ireturn, 1) := dk_172 (dk_at dksX0_see_1 10 rfl rfl)
theorem dX0_see_34 : decode cX0_see 34 = .ok (.aload_n 0, 1) := dk_42 (dk_at dksX0_see_1 11 rfl rfl)
theorem dX0_see_35 : decode cX0_see 35 = .ok (.getfield 59, 3) := dk_180 0 59 (dk_at dksX0_see_1 12 rfl rfl)
theorem dX0_see_38 : decode cX0_see 38 = .ok (.bipush 6, 2) := dk_16 6 (dk_at dksX0_see_1 15 rfl rfl)
theorem dX0_see_40 : decode cX0_see 40 = .ok (.if_icmp .ne 6, 3) := dk_160 0 6 (dk_at dksX0_see_1 17 rfl rfl)
theorem dX0_see_43 : decode cX0_see 43 = .ok (.bipush (-3), 2) := dk_16 253 (dk_at dksX0_see_1 20 rfl rfl)
theorem dX0_see_45 : decode cX0_see 45 = .ok (.ireturn, 1) := dk_172 (dk_at dksX0_see_1 22 rfl rfl)
theorem dX0_see_46 : decode cX0_see 46 = .ok (.aload_n 0, 1) := dk_42 (dk_at dksX0_see_1 23 rfl rfl)
theorem dX0_see_47 : decode cX0_see 47 = .ok (.getfield 310, 3) := dk_180 1 54 (dk_at dksX0_see_2 0 rfl rfl)
theorem dX0_see_50 : decode cX0_see 50 = .ok (.aload_n 0, 1) := dk_42 (dk_at dksX0_see_2 3 rfl rfl)
theorem dX0_see_51 : decode cX0_see 51 = .ok (.getfield 59, 3) := dk_180 0 59 (dk_at dksX0_see_2 4 rfl rfl)
theorem dX0_see_54 : decode cX0_see 54 = .ok (.aaload, 1) := dk_50 (dk_at dksX0_see_2 7 rfl rfl)
theorem dX0_see_55 : decode cX0_see 55 = .ok (.iconst 0, 1) := dk_3 (dk_at dksX0_see_2 8 rfl rfl)
theorem dX0_see_56 : decode cX0_see 56 = .ok (.iload_n 1, 1) := dk_27 (dk_at dksX0_see_2 9 rfl rfl)
theorem dX0_see_57 : decode cX0_see 57 = .ok (.iastore, 1) := dk_79 (dk_at dksX0_see_2 10 rfl rfl)
theorem dX0_see_58 : decode cX0_see 58 = .ok (.aload_n 0, 1) := dk_42 (dk_at dksX0_see_2 11 rfl rfl)
theorem dX0_see_59 : decode cX0_see 59 = .ok (.getfield 310, 3) := dk_180 1 54 (dk_at dksX0_see_2 12 rfl rfl)
theorem dX0_see_62 : decode cX0_see 62 = .ok (.aload_n 0, 1) := dk_42 (dk_at dksX0_see_2 15 rfl rfl)
theorem dX0_see_63 : decode cX0_see 63 = .ok (.getfield 59, 3) := dk_180 0 59 (dk_at dksX0_see_2 16 rfl rfl)
theorem dX0_see_66 : decode cX0_see 66 = .ok (.aaload, 1) := dk_50 (dk_at dksX0_see_2 19 rfl rfl)
theorem dX0_see_67 : decode cX0_see 67 = .ok (.iconst 1, 1) := dk_4 (dk_at dksX0_see_2 20 rfl rfl)
theorem dX0_see_68 : decode cX0_see 68 = .ok (.iload_n 2, 1) := dk_28 (dk_at dksX0_see_2 21 rfl rfl)
theorem dX0_see_69 : decode cX0_see 69 = .ok (.iastore, 1) := dk_79 (dk_at dksX0_see_2 22 rfl rfl)
theorem dX0_see_70 : decode cX0_see 70 = .ok (.aload_n 0, 1) := dk_42 (dk_at dksX0_see_2 23 rfl rfl)
theorem dX0_see_71 : decode cX0_see 71 = .ok (.getfield 310, 3) := dk_180 1 54 (dk_at dksX0_see_3 0 rfl rfl)
theorem dX0_see_74 : decode cX0_see 74 = .ok (.aload_n 0, 1) := dk_42 (dk_at dksX0_see_3 3 rfl rfl)
theorem dX0_see_75 : decode cX0_see 75 = .ok (.getfield 59, 3) := dk_180 0 59 (dk_at dksX0_see_3 4 rfl rfl)
theorem dX0_see_78 : decode cX0_see 78 = .ok (.aaload, 1) := dk_50 (dk_at dksX0_see_3 7 rfl rfl)
theorem dX0_see_79 : decode cX0_see 79 = .ok (.iconst 2, 1) := dk_5 (dk_at dksX0_see_3 8 rfl rfl)
theorem dX0_see_80 : decode cX0_see 80 = .ok (.iload_n 3, 1) := dk_29 (dk_at dksX0_see_3 9 rfl rfl)
theorem dX0_see_81 : decode cX0_see 81 = .ok (.iastore, 1) := dk_79 (dk_at dksX0_see_3 10 rfl rfl)
theorem dX0_see_82 : decode cX0_see 82 = .ok (.aload_n 0, 1) := dk_42 (dk_at dksX0_see_3 11 rfl rfl)
theorem dX0_see_83 : decode cX0_see 83 = .ok (.dup, 1) := dk_89 (dk_at dksX0_see_3 12 rfl rfl)
theorem dX0_see_84 : decode cX0_see 84 = .ok (.getfield 59, 3) := dk_180 0 59 (dk_at dksX0_see_3 13 rfl rfl)
theorem dX0_see_87 : decode cX0_see 87 = .ok (.iconst 1, 1) := dk_4 (dk_at dksX0_see_3 16 rfl rfl)
theorem dX0_see_88 : decode cX0_see 88 = .ok (.iadd, 1) := dk_96 (dk_at dksX0_see_3 17 rfl rfl)
theorem dX0_see_89 : decode cX0_see 89 = .ok (.putfield 59, 3) := dk_181 0 59 (dk_at dksX0_see_3 18 rfl rfl)
theorem dX0_see_92 : decode cX0_see 92 = .ok (.aload_n 0, 1) := dk_42 (dk_at dksX0_see_3 21 rfl rfl)
theorem dX0_see_93 : decode cX0_see 93 = .ok (.getfield 59, 3) := dk_180 0 59 (dk_at dksX0_see_4 0 rfl rfl)
theorem dX0_see_96 : decode cX0_see 96 = .ok (.ireturn, 1) := dk_172 (dk_at dksX0_see_4 3 rfl rfl)
abbrev cX0_forget : ByteArray := prog_1_method_51_code
def yX0_forget : MethodName := ⟨RX0, "forget", "(I)I"⟩
def dkwX0_forget_1 : List UInt8 := [181, 0, 59, 28, 172]
abbrev dktX0_forget_1 : List UInt8 := dkwX0_forget_1 ++ []
def dkwX0_forget_0 : List UInt8 := [27, 133, 9, 42, 180, 0, 59, 133, 184, 0, 3, 154, 0, 5, 2, 172, 42, 180, 0, 59, 61, 42, 27]
abbrev dktX0_forget_0 : List UInt8 := dkwX0_forget_0 ++ dktX0_forget_1
theorem dksX0_forget_0 : cX0_forget.data.toList.drop 0 = dktX0_forget_0 := by decide +kernel
theorem dksX0_forget_1 : cX0_forget.data.toList.drop 23 = dktX0_forget_1 := dk_seg dksX0_forget_0 23 rfl rfl
theorem dX0_forget_0 : decode cX0_forget 0 = .ok (.iload_n 1, 1) := dk_27 (dk_at dksX0_forget_0 0 rfl rfl)
theorem dX0_forget_1 : decode cX0_forget 1 = .ok (.i2l, 1) := dk_133 (dk_at dksX0_forget_0 1 rfl rfl)
theorem dX0_forget_2 : decode cX0_forget 2 = .ok (.lconst 0, 1) := dk_9 (dk_at dksX0_forget_0 2 rfl rfl)
theorem dX0_forget_3 : decode cX0_forget 3 = .ok (.aload_n 0, 1) := dk_42 (dk_at dksX0_forget_0 3 rfl rfl)
theorem dX0_forget_4 : decode cX0_forget 4 = .ok (.getfield 59, 3) := dk_180 0 59 (dk_at dksX0_forget_0 4 rfl rfl)
theorem dX0_forget_7 : decode cX0_forget 7 = .ok (.i2l, 1) := dk_133 (dk_at dksX0_forget_0 7 rfl rfl)
theorem dX0_forget_8 : decode cX0_forget 8 = .ok (.invokestatic 3, 3) := dk_184 0 3 (dk_at dksX0_forget_0 8 rfl rfl)
theorem dX0_forget_11 : decode cX0_forget 11 = .ok (.ifCond .ne 5, 3) := dk_154 0 5 (dk_at dksX0_forget_0 11 rfl rfl)
theorem dX0_forget_14 : decode cX0_forget 14 = .ok (.iconst (-1), 1) := dk_2 (dk_at dksX0_forget_0 14 rfl rfl)
theorem dX0_forget_15 : decode cX0_forget 15 = .ok (.ireturn, 1) := dk_172 (dk_at dksX0_forget_0 15 rfl rfl)
theorem dX0_forget_16 : decode cX0_forget 16 = .ok (.aload_n 0, 1) := dk_42 (dk_at dksX0_forget_0 16 rfl rfl)
theorem dX0_forget_17 : decode cX0_forget 17 = .ok (.getfield 59, 3) := dk_180 0 59 (dk_at dksX0_forget_0 17 rfl rfl)
theorem dX0_forget_20 : decode cX0_forget 20 = .ok (.istore_n 2, 1) := dk_61 (dk_at dksX0_forget_0 20 rfl rfl)
theorem dX0_forget_21 : decode cX0_forget 21 = .ok (.aload_n 0, 1) := dk_42 (dk_at dksX0_forget_0 21 rfl rfl)
theorem dX0_forget_22 : decode cX0_forget 22 = .ok (.iload_n 1, 1) := dk_27 (dk_at dksX0_forget_0 22 rfl rfl)
theorem dX0_forget_23 : decode cX0_forget 23 = .ok (.putfield 59, 3) := dk_181 0 59 (dk_at dksX0_forget_1 0 rfl rfl)
theorem dX0_forget_26 : decode cX0_forget 26 = .ok (.iload_n 2, 1) := dk_28 (dk_at dksX0_forget_1 3 rfl rfl)
theorem dX0_forget_27 : decode cX0_forget 27 = .ok (.ireturn, 1) := dk_172 (dk_at dksX0_forget_1 4 rfl rfl)
abbrev cX0_fits : ByteArray := prog_1_method_53_code
def yX0_fits : MethodName := ⟨RX0, "fits", "(I)I"⟩
def dkwX0_fits_2 : List UInt8 := [167, 0, 12, 42, 180, 1, 9, 27, 16, 10, 100, 46, 172]
abbrev dktX0_fits_2 : List UInt8 := dkwX0_fits_2 ++ []
def dkwX0_fits_1 : List UInt8 := [184, 0, 3, 154, 0, 5, 2, 172, 42, 16, 252, 3, 3, 182, 1, 25, 27, 154, 0, 10, 42, 180, 1, 6]
abbrev dktX0_fits_1 : List UInt8 := dkwX0_fits_1 ++ dktX0_fits_2
def dkwX0_fits_0 : List UInt8 := [27, 153, 0, 29, 27, 133, 20, 0, 156, 16, 10, 42, 180, 0, 33, 180, 0, 86, 96, 4, 100, 133]
abbrev dktX0_fits_0 : List UInt8 := dkwX0_fits_0 ++ dktX0_fits_1
theorem dksX0_fits_0 : cX0_fits.data.toList.drop 0 = dktX0_fits_0 := by decide +kernel
theorem dksX0_fits_1 : cX0_fits.data.toList.drop 22 = dktX0_fits_1 := dk_seg dksX0_fits_0 22 rfl rfl
theorem dksX0_fits_2 : cX0_fits.data.toList.drop 46 = dktX0_fits_2 := dk_seg dksX0_fits_1 24 rfl rfl
theorem dX0_fits_0 : decode cX0_fits 0 = .ok (.iload_n 1, 1) := dk_27 (dk_at dksX0_fits_0 0 rfl rfl)
theorem dX0_fits_1 : decode cX0_fits 1 = .ok (.ifCond .eq 29, 3) := dk_153 0 29 (dk_at dksX0_fits_0 1 rfl rfl)
theorem dX0_fits_4 : decode cX0_fits 4 = .ok (.iload_n 1, 1) := dk_27 (dk_at dksX0_fits_0 4 rfl rfl)
theorem dX0_fits_5 : decode cX0_fits 5 = .ok (.i2l, 1) := dk_133 (dk_at dksX0_fits_0 5 rfl rfl)
theorem dX0_fits_6 : decode cX0_fits 6 = .ok (.ldc2_w 156, 3) := dk_20 0 156 (dk_at dksX0_fits_0 6 rfl rfl)
theorem dX0_fits_9 : decode cX0_fits 9 = .ok (.bipush 10, 2) := dk_16 10 (dk_at dksX0_fits_0 9 rfl rfl)
theorem dX0_fits_11 : decode cX0_fits 11 = .ok (.aload_n 0, 1) := dk_42 (dk_at dksX0_fits_0 11 rfl rfl)
theorem dX0_fits_12 : decode cX0_fits 12 = .ok (.getfield 33, 3) := dk_180 0 33 (dk_at dksX0_fits_0 12 rfl rfl)
theorem dX0_fits_15 : decode cX0_fits 15 = .ok (.getfield 86, 3) := dk_180 0 86 (dk_at dksX0_fits_0 15 rfl rfl)
theorem dX0_fits_18 : decode cX0_fits 18 = .ok (.iadd, 1) := dk_96 (dk_at dksX0_fits_0 18 rfl rfl)
theorem dX0_fits_19 : decode cX0_fits 19 = .ok (.iconst 1, 1) := dk_4 (dk_at dksX0_fits_0 19 rfl rfl)
theorem dX0_fits_20 : decode cX0_fits 20 = .ok (.isub, 1) := dk_100 (dk_at dksX0_fits_0 20 rfl rfl)
theorem dX0_fits_21 : decode cX0_fits 21 = .ok (.i2l, 1) := dk_133 (dk_at dksX0_fits_0 21 rfl rfl)
theorem dX0_fits_22 : decode cX0_fits 22 = .ok (.invokestatic 3, 3) := dk_184 0 3 (dk_at dksX0_fits_1 0 rfl rfl)
theorem dX0_fits_25 : decode cX0_fits 25 = .ok (.ifCond .ne 5, 3) := dk_154 0 5 (dk_at dksX0_fits_1 3 rfl rfl)
theorem dX0_fits_28 : decode cX0_fits 28 = .ok (.iconst (-1), 1) := dk_2 (dk_at dksX0_fits_1 6 rfl rfl)
theorem dX0_fits_29 : decode cX0_fits 29 = .ok (.ireturn, 1) := dk_172 (dk_at dksX0_fits_1 7 rfl rfl)
theorem dX0_fits_30 : decode cX0_fits 30 = .ok (.aload_n 0, 1) := dk_42 (dk_at dksX0_fits_1 8 rfl rfl)
theorem dX0_fits_31 : decode cX0_fits 31 = .ok (.bipush (-4), 2) := dk_16 252 (dk_at dksX0_fits_1 9 rfl rfl)
theorem dX0_fits_33 : decode cX0_fits 33 = .ok (.iconst 0, 1) := dk_3 (dk_at dksX0_fits_1 11 rfl rfl)
theorem dX0_fits_34 : decode cX0_fits 34 = .ok (.iconst 0, 1) := dk_3 (dk_at dksX0_fits_1 12 rfl rfl)
theorem dX0_fits_35 : decode cX0_fits 35 = .ok (.invokevirtual 281, 3) := dk_182 1 25 (dk_at dksX0_fits_1 13 rfl rfl)
theorem dX0_fits_38 : decode cX0_fits 38 = .ok (.iload_n 1, 1) := dk_27 (dk_at dksX0_fits_1 16 rfl rfl)
theorem dX0_fits_39 : decode cX0_fits 39 = .ok (.ifCond .ne 10, 3) := dk_154 0 10 (dk_at dksX0_fits_1 17 rfl rfl)
theorem dX0_fits_42 : decode cX0_fits 42 = .ok (.aload_n 0, 1) := dk_42 (dk_at dksX0_fits_1 20 rfl rfl)
theorem dX0_fits_43 : decode cX0_fits 43 = .ok (.getfield 262, 3) := dk_180 1 6 (dk_at dksX0_fits_1 21 rfl rfl)
theorem dX0_fits_46 : decode cX0_fits 46 = .ok (.goto 12, 3) := dk_167 0 12 (dk_at dksX0_fits_2 0 rfl rfl)
theorem dX0_fits_49 : decode cX0_fits 49 = .ok (.aload_n 0, 1) := dk_42 (dk_at dksX0_fits_2 3 rfl rfl)
theorem dX0_fits_50 : decode cX0_fits 50 = .ok (.getfield 265, 3) := dk_180 1 9 (dk_at dksX0_fits_2 4 rfl rfl)
theorem dX0_fits_53 : decode cX0_fits 53 = .ok (.iload_n 1, 1) := dk_27 (dk_at dksX0_fits_2 7 rfl rfl)
theorem dX0_fits_54 : decode cX0_fits 54 = .ok (.bipush 10, 2) := dk_16 10 (dk_at dksX0_fits_2 8 rfl rfl)
theorem dX0_fits_56 : decode cX0_fits 56 = .ok (.isub, 1) := dk_100 (dk_at dksX0_fits_2 10 rfl rfl)
theorem dX0_fits_57 : decode cX0_fits 57 = .ok (.iaload, 1) := dk_46 (dk_at dksX0_fits_2 11 rfl rfl)
theorem dX0_fits_58 : decode cX0_fits 58 = .ok (.ireturn, 1) := dk_172 (dk_at dksX0_fits_2 12 rfl rfl)
abbrev cX0_listen : ByteArray := prog_1_method_54_code
def yX0_listen : MethodName := ⟨RX0, "listen", "(II)I"⟩
def dkwX0_listen_6 : List UInt8 := [154, 0, 8, 21, 4, 167, 0, 4, 29, 172]
abbrev dktX0_listen_6 : List UInt8 := dkwX0_listen_6 ++ []
def dkwX0_listen_5 : List UInt8 := [153, 0, 8, 21, 6, 167, 0, 4, 29, 62, 132, 5, 1, 167, 255, 157, 21, 4, 16, 252, 159, 0, 7, 28]
abbrev dktX0_listen_5 : List UInt8 := dkwX0_listen_5 ++ dktX0_listen_6
def dkwX0_listen_4 : List UInt8 := [167, 0, 4, 3, 54, 7, 21, 7, 153, 0, 8, 21, 5, 167, 0, 5, 21, 4, 54, 4, 21, 7]
abbrev dktX0_listen_4 : List UInt8 := dkwX0_listen_4 ++ dktX0_listen_5
def dkwX0_listen_3 : List UInt8 := [54, 6, 132, 7, 1, 167, 255, 233, 21, 6, 42, 180, 1, 6, 162, 0, 13, 21, 6, 29, 162, 0, 7, 4]
abbrev dktX0_listen_3 : List UInt8 := dkwX0_listen_3 ++ dktX0_listen_4
def dkwX0_listen_2 : List UInt8 := [54, 6, 3, 54, 7, 21, 7, 8, 163, 0, 23, 21, 6, 42, 180, 1, 12, 21, 7, 46, 184, 0, 227]
abbrev dktX0_listen_2 : List UInt8 := dkwX0_listen_2 ++ dktX0_listen_3
def dkwX0_listen_1 : List UInt8 := [16, 252, 54, 4, 3, 54, 5, 21, 5, 16, 30, 163, 0, 98, 42, 16, 252, 27, 21, 5, 182, 1, 25, 3]
abbrev dktX0_listen_1 : List UInt8 := dkwX0_listen_1 ++ dktX0_listen_2
def dkwX0_listen_0 : List UInt8 := [42, 27, 182, 0, 106, 153, 0, 13, 28, 133, 9, 10, 184, 0, 3, 154, 0, 5, 2, 172, 19, 1, 28, 62]
abbrev dktX0_listen_0 : List UInt8 := dkwX0_listen_0 ++ dktX0_listen_1
theorem dksX0_listen_0 : cX0_listen.data.toList.drop 0 = dktX0_listen_0 := by decide +kernel
theorem dksX0_listen_1 : cX0_listen.data.toList.drop 24 = dktX0_listen_1 := dk_seg dksX0_listen_0 24 rfl rfl
theorem dksX0_listen_2 : cX0_listen.data.toList.drop 48 = dktX0_listen_2 := dk_seg dksX0_listen_1 24 rfl rfl
theorem dksX0_listen_3 : cX0_listen.data.toList.drop 71 = dktX0_listen_3 := dk_seg dksX0_listen_2 23 rfl rfl
theorem dksX0_listen_4 : cX0_listen.data.toList.drop 95 = dktX0_listen_4 := dk_seg dksX0_listen_3 24 rfl rfl
theorem dksX0_listen_5 : cX0_listen.data.toList.drop 117 = dktX0_listen_5 := dk_seg dksX0_listen_4 22 rfl rfl
theorem dksX0_listen_6 : cX0_listen.data.toList.drop 141 = dktX0_listen_6 := dk_seg dksX0_listen_5 24 rfl rfl
theorem dX0_listen_0 : decode cX0_listen 0 = .ok (.aload_n 0, 1) := dk_42 (dk_at dksX0_listen_0 0 rfl rfl)
theorem dX0_listen_1 : decode cX0_listen 1 = .ok (.iload_n 1, 1) := dk_27 (dk_at dksX0_listen_0 1 rfl rfl)
theorem dX0_listen_2 : decode cX0_listen 2 = .ok (.invokevirtual 106, 3) := dk_182 0 106 (dk_at dksX0_listen_0 2 rfl rfl)
theorem dX0_listen_5 : decode cX0_listen 5 = .ok (.ifCond .eq 13, 3) := dk_153 0 13 (dk_at dksX0_listen_0 5 rfl rfl)
theorem dX0_listen_8 : decode cX0_listen 8 = .ok (.iload_n 2, 1) := dk_28 (dk_at dksX0_listen_0 8 rfl rfl)
theorem dX0_listen_9 : decode cX0_listen 9 = .ok (.i2l, 1) := dk_133 (dk_at dksX0_listen_0 9 rfl rfl)
theorem dX0_listen_10 : decode cX0_listen 10 = .ok (.lconst 0, 1) := dk_9 (dk_at dksX0_listen_0 10 rfl rfl)
theorem dX0_listen_11 : decode cX0_listen 11 = .ok (.lconst 1, 1) := dk_10 (dk_at dksX0_listen_0 11 rfl rfl)
theorem dX0_listen_12 : decode cX0_listen 12 = .ok (.invokestatic 3, 3) := dk_184 0 3 (dk_at dksX0_listen_0 12 rfl rfl)
theorem dX0_listen_15 : decode cX0_listen 15 = .ok (.ifCond .ne 5, 3) := dk_154 0 5 (dk_at dksX0_listen_0 15 rfl rfl)
theorem dX0_listen_18 : decode cX0_listen 18 = .ok (.iconst (-1), 1) := dk_2 (dk_at dksX0_listen_0 18 rfl rfl)
theorem dX0_listen_19 : decode cX0_listen 19 = .ok (.ireturn, 1) := dk_172 (dk_at dksX0_listen_0 19 rfl rfl)
theorem dX0_listen_20 : decode cX0_listen 20 = .ok (.ldc_w 284, 3) := dk_19 1 28 (dk_at dksX0_listen_0 20 rfl rfl)
theorem dX0_listen_23 : decode cX0_listen 23 = .ok (.istore_n 3, 1) := dk_62 (dk_at dksX0_listen_0 23 rfl rfl)
theorem dX0_listen_24 : decode cX0_listen 24 = .ok (.bipush (-4), 2) := dk_16 252 (dk_at dksX0_listen_1 0 rfl rfl)
theorem dX0_listen_26 : decode cX0_listen 26 = .ok (.istore 4, 2) := dk_54 4 (dk_at dksX0_listen_1 2 rfl rfl)
theorem dX0_listen_28 : decode cX0_listen 28 = .ok (.iconst 0, 1) := dk_3 (dk_at dksX0_listen_1 4 rfl rfl)
theorem dX0_listen_29 : decode cX0_listen 29 = .ok (.istore 5, 2) := dk_54 5 (dk_at dksX0_listen_1 5 rfl rfl)
theorem dX0_listen_31 : decode cX0_listen 31 = .ok (.iload 5, 2) := dk_21 5 (dk_at dksX0_listen_1 7 rfl rfl)
theorem dX0_listen_33 : decode cX0_listen 33 = .ok (.bipush 30, 2) := dk_16 30 (dk_at dksX0_listen_1 9 rfl rfl)
theorem dX0_listen_35 : decode cX0_listen 35 = .ok (.if_icmp .gt 98, 3) := dk_163 0 98 (dk_at dksX0_listen_1 11 rfl rfl)
theorem dX0_listen_38 : decode cX0_listen 38 = .ok (.aload_n 0, 1) := dk_42 (dk_at dksX0_listen_1 14 rfl rfl)
theorem dX0_listen_39 : decode cX0_listen 39 = .ok (.bipush (-4), 2) := dk_16 252 (dk_at dksX0_listen_1 15 rfl rfl)
theorem dX0_listen_41 : decode cX0_listen 41 = .ok (.iload_n 1, 1) := dk_27 (dk_at dksX0_listen_1 17 rfl rfl)
theorem dX0_listen_42 : decode cX0_listen 42 = .ok (.iload 5, 2) := dk_21 5 (dk_at dksX0_listen_1 18 rfl rfl)
theorem dX0_listen_44 : decode cX0_listen 44 = .ok (.invokevirtual 281, 3) := dk_182 1 25 (dk_at dksX0_listen_1 20 rfl rfl)
theorem dX0_listen_47 : decode cX0_listen 47 = .ok (.iconst 0, 1) := dk_3 (dk_at dksX0_listen_1 23 rfl rfl)
theorem dX0_listen_48 : decode cX0_listen 48 = .ok (.istore 6, 2) := dk_54 6 (dk_at dksX0_listen_2 0 rfl rfl)
theorem dX0_listen_50 : decode cX0_listen 50 = .ok (.iconst 0, 1) := dk_3 (dk_at dksX0_listen_2 2 rfl rfl)
theorem dX0_listen_51 : decode cX0_listen 51 = .ok (.istore 7, 2) := dk_54 7 (dk_at dksX0_listen_2 3 rfl rfl)
theorem dX0_listen_53 : decode cX0_listen 53 = .ok (.iload 7, 2) := dk_21 7 (dk_at dksX0_listen_2 5 rfl rfl)
theorem dX0_listen_55 : decode cX0_listen 55 = .ok (.iconst 5, 1) := dk_8 (dk_at dksX0_listen_2 7 rfl rfl)
theorem dX0_listen_56 : decode cX0_listen 56 = .ok (.if_icmp .gt 23, 3) := dk_163 0 23 (dk_at dksX0_listen_2 8 rfl rfl)
theorem dX0_listen_59 : decode cX0_listen 59 = .ok (.iload 6, 2) := dk_21 6 (dk_at dksX0_listen_2 11 rfl rfl)
theorem dX0_listen_61 : decode cX0_listen 61 = .ok (.aload_n 0, 1) := dk_42 (dk_at dksX0_listen_2 13 rfl rfl)
theorem dX0_listen_62 : decode cX0_listen 62 = .ok (.getfield 268, 3) := dk_180 1 12 (dk_at dksX0_listen_2 14 rfl rfl)
theorem dX0_listen_65 : decode cX0_listen 65 = .ok (.iload 7, 2) := dk_21 7 (dk_at dksX0_listen_2 17 rfl rfl)
theorem dX0_listen_67 : decode cX0_listen 67 = .ok (.iaload, 1) := dk_46 (dk_at dksX0_listen_2 19 rfl rfl)
theorem dX0_listen_68 : decode cX0_listen 68 = .ok (.invokestatic 227, 3) := dk_184 0 227 (dk_at dksX0_listen_2 20 rfl rfl)
theorem dX0_listen_71 : decode cX0_listen 71 = .ok (.istore 6, 2) := dk_54 6 (dk_at dksX0_listen_3 0 rfl rfl)
theorem dX0_listen_73 : decode cX0_listen 73 = .ok (.iinc 7 1, 3) := dk_132 7 1 (dk_at dksX0_listen_3 2 rfl rfl)
theorem dX0_listen_76 : decode cX0_listen 76 = .ok (.goto (-23), 3) := dk_167 255 233 (dk_at dksX0_listen_3 5 rfl rfl)
theorem dX0_listen_79 : decode cX0_listen 79 = .ok (.iload 6, 2) := dk_21 6 (dk_at dksX0_listen_3 8 rfl rfl)
theorem dX0_listen_81 : decode cX0_listen 81 = .ok (.aload_n 0, 1) := dk_42 (dk_at dksX0_listen_3 10 rfl rfl)
theorem dX0_listen_82 : decode cX0_listen 82 = .ok (.getfield 262, 3) := dk_180 1 6 (dk_at dksX0_listen_3 11 rfl rfl)
theorem dX0_listen_85 : decode cX0_listen 85 = .ok (.if_icmp .ge 13, 3) := dk_162 0 13 (dk_at dksX0_listen_3 14 rfl rfl)
theorem dX0_listen_88 : decode cX0_listen 88 = .ok (.iload 6, 2) := dk_21 6 (dk_at dksX0_listen_3 17 rfl rfl)
theorem dX0_listen_90 : decode cX0_listen 90 = .ok (.iload_n 3, 1) := dk_29 (dk_at dksX0_listen_3 19 rfl rfl)
theorem dX0_listen_91 : decode cX0_listen 91 = .ok (.if_icmp .ge 7, 3) := dk_162 0 7 (dk_at dksX0_listen_3 20 rfl rfl)
theorem dX0_listen_94 : decode cX0_listen 94 = .ok (.iconst 1, 1) := dk_4 (dk_at dksX0_listen_3 23 rfl rfl)
theorem dX0_listen_95 : decode cX0_listen 95 = .ok (.goto 4, 3) := dk_167 0 4 (dk_at dksX0_listen_4 0 rfl rfl)
theorem dX0_listen_98 : decode cX0_listen 98 = .ok (.iconst 0, 1) := dk_3 (dk_at dksX0_listen_4 3 rfl rfl)
theorem dX0_listen_99 : decode cX0_listen 99 = .ok (.istore 7, 2) := dk_54 7 (dk_at dksX0_listen_4 4 rfl rfl)
theorem dX0_listen_101 : decode cX0_listen 101 = .ok (.iload 7, 2) := dk_21 7 (dk_at dksX0_listen_4 6 rfl rfl)
theorem dX0_listen_103 : decode cX0_listen 103 = .ok (.ifCond .eq 8, 3) := dk_153 0 8 (dk_at dksX0_listen_4 8 rfl rfl)
theorem dX0_listen_106 : decode cX0_listen 106 = .ok (.iload 5, 2) := dk_21 5 (dk_at dksX0_listen_4 11 rfl rfl)
theorem dX0_listen_108 : decode cX0_listen 108 = .ok (.goto 5, 3) := dk_167 0 5 (dk_at dksX0_listen_4 13 rfl rfl)
theorem dX0_listen_111 : decode cX0_listen 111 = .ok (.iload 4, 2) := dk_21 4 (dk_at dksX0_listen_4 16 rfl rfl)
theorem dX0_listen_113 : decode cX0_listen 113 = .ok (.istore 4, 2) := dk_54 4 (dk_at dksX0_listen_4 18 rfl rfl)
theorem dX0_listen_115 : decode cX0_listen 115 = .ok (.iload 7, 2) := dk_21 7 (dk_at dksX0_listen_4 20 rfl rfl)
theorem dX0_listen_117 : decode cX0_listen 117 = .ok (.ifCond .eq 8, 3) := dk_153 0 8 (dk_at dksX0_listen_5 0 rfl rfl)
theorem dX0_listen_120 : decode cX0_listen 120 = .ok (.iload 6, 2) := dk_21 6 (dk_at dksX0_listen_5 3 rfl rfl)
theorem dX0_listen_122 : decode cX0_listen 122 = .ok (.goto 4, 3) := dk_167 0 4 (dk_at dksX0_listen_5 5 rfl rfl)
theorem dX0_listen_125 : decode cX0_listen 125 = .ok (.iload_n 3, 1) := dk_29 (dk_at dksX0_listen_5 8 rfl rfl)
theorem dX0_listen_126 : decode cX0_listen 126 = .ok (.istore_n 3, 1) := dk_62 (dk_at dksX0_listen_5 9 rfl rfl)
theorem dX0_listen_127 : decode cX0_listen 127 = .ok (.iinc 5 1, 3) := dk_132 5 1 (dk_at dksX0_listen_5 10 rfl rfl)
theorem dX0_listen_130 : decode cX0_listen 130 = .ok (.goto (-99), 3) := dk_167 255 157 (dk_at dksX0_listen_5 13 rfl rfl)
theorem dX0_listen_133 : decode cX0_listen 133 = .ok (.iload 4, 2) := dk_21 4 (dk_at dksX0_listen_5 16 rfl rfl)
theorem dX0_listen_135 : decode cX0_listen 135 = .ok (.bipush (-4), 2) := dk_16 252 (dk_at dksX0_listen_5 18 rfl rfl)
theorem dX0_listen_137 : decode cX0_listen 137 = .ok (.if_icmp .eq 7, 3) := dk_159 0 7 (dk_at dksX0_listen_5 20 rfl rfl)
theorem dX0_listen_140 : decode cX0_listen 140 = .ok (.iload_n 2, 1) := dk_28 (dk_at dksX0_listen_5 23 rfl rfl)
theorem dX0_listen_141 : decode cX0_listen 141 = .ok (.ifCond .ne 8, 3) := dk_154 0 8 (dk_at dksX0_listen_6 0 rfl rfl)
theorem dX0_listen_144 : decode cX0_listen 144 = .ok (.iload 4, 2) := dk_21 4 (dk_at dksX0_listen_6 3 rfl rfl)
theorem dX0_listen_146 : decode cX0_listen 146 = .ok (.goto 4, 3) := dk_167 0 4 (dk_at dksX0_listen_6 5 rfl rfl)
theorem dX0_listen_149 : decode cX0_listen 149 = .ok (.iload_n 3, 1) := dk_29 (dk_at dksX0_listen_6 8 rfl rfl)
theorem dX0_listen_150 : decode cX0_listen 150 = .ok (.ireturn, 1) := dk_172 (dk_at dksX0_listen_6 9 rfl rfl)
abbrev cX0_drift : ByteArray := prog_1_method_55_code
def yX0_drift : MethodName := ⟨RX0, "drift", "(III)I"⟩
def dkwX0_drift_6 : List UInt8 := [132, 5, 1, 167, 255, 166, 42, 180, 0, 206, 29, 154, 0, 7, 4, 167, 0, 4, 3, 184, 1, 59, 172]
abbrev dktX0_drift_6 : List UInt8 := dkwX0_drift_6 ++ []
def dkwX0_drift_5 : List UInt8 := [180, 0, 134, 21, 6, 46, 158, 0, 7, 4, 167, 0, 4, 3, 100, 79, 42, 180, 0, 206, 182, 0, 198]
abbrev dktX0_drift_5 : List UInt8 := dkwX0_drift_5 ++ dktX0_drift_6
def dkwX0_drift_4 : List UInt8 := [180, 0, 134, 21, 6, 92, 46, 42, 180, 0, 206, 21, 6, 182, 0, 191, 154, 0, 20, 42, 180, 0, 206]
abbrev dktX0_drift_4 : List UInt8 := dkwX0_drift_4 ++ dktX0_drift_5
def dkwX0_drift_3 : List UInt8 := [21, 4, 16, 16, 122, 17, 127, 255, 126, 42, 180, 0, 33, 180, 0, 86, 112, 54, 6, 42, 180, 0, 206]
abbrev dktX0_drift_3 : List UInt8 := dkwX0_drift_3 ++ dktX0_drift_4
def dkwX0_drift_2 : List UInt8 := [182, 0, 40, 3, 54, 5, 21, 5, 28, 162, 0, 90, 21, 4, 19, 1, 58, 104, 17, 48, 57, 96, 54, 4]
abbrev dktX0_drift_2 : List UInt8 := dkwX0_drift_2 ++ dktX0_drift_3
def dkwX0_drift_1 : List UInt8 := [42, 180, 0, 33, 180, 0, 86, 154, 0, 6, 16, 254, 172, 27, 54, 4, 42, 180, 0, 206, 42, 180, 0, 33]
abbrev dktX0_drift_1 : List UInt8 := dkwX0_drift_1 ++ dktX0_drift_2
def dkwX0_drift_0 : List UInt8 := [28, 133, 10, 20, 0, 200, 184, 0, 3, 153, 0, 13, 29, 133, 9, 10, 184, 0, 3, 154, 0, 5, 2, 172]
abbrev dktX0_drift_0 : List UInt8 := dkwX0_drift_0 ++ dktX0_drift_1
theorem dksX0_drift_0 : cX0_drift.data.toList.drop 0 = dktX0_drift_0 := by decide +kernel
theorem dksX0_drift_1 : cX0_drift.data.toList.drop 24 = dktX0_drift_1 := dk_seg dksX0_drift_0 24 rfl rfl
theorem dksX0_drift_2 : cX0_drift.data.toList.drop 48 = dktX0_drift_2 := dk_seg dksX0_drift_1 24 rfl rfl
theorem dksX0_drift_3 : cX0_drift.data.toList.drop 72 = dktX0_drift_3 := dk_seg dksX0_drift_2 24 rfl rfl
theorem dksX0_drift_4 : cX0_drift.data.toList.drop 95 = dktX0_drift_4 := dk_seg dksX0_drift_3 23 rfl rfl
theorem dksX0_drift_5 : cX0_drift.data.toList.drop 118 = dktX0_drift_5 := dk_seg dksX0_drift_4 23 rfl rfl
theorem dksX0_drift_6 : cX0_drift.data.toList.drop 141 = dktX0_drift_6 := dk_seg dksX0_drift_5 23 rfl rfl
theorem dX0_drift_0 : decode cX0_drift 0 = .ok (.iload_n 2, 1) := dk_28 (dk_at dksX0_drift_0 0 rfl rfl)
theorem dX0_drift_1 : decode cX0_drift 1 = .ok (.i2l, 1) := dk_133 (dk_at dksX0_drift_0 1 rfl rfl)
theorem dX0_drift_2 : decode cX0_drift 2 = .ok (.lconst 1, 1) := dk_10 (dk_at dksX0_drift_0 2 rfl rfl)
theorem dX0_drift_3 : decode cX0_drift 3 = .ok (.ldc2_w 200, 3) := dk_20 0 200 (dk_at dksX0_drift_0 3 rfl rfl)
theorem dX0_drift_6 : decode cX0_drift 6 = .ok (.invokestatic 3, 3) := dk_184 0 3 (dk_at dksX0_drift_0 6 rfl rfl)
theorem dX0_drift_9 : decode cX0_drift 9 = .ok (.ifCond .eq 13, 3) := dk_153 0 13 (dk_at dksX0_drift_0 9 rfl rfl)
theorem dX0_drift_12 : decode cX0_drift 12 = .ok (.iload_n 3, 1) := dk_29 (dk_at dksX0_drift_0 12 rfl rfl)
theorem dX0_drift_13 : decode cX0_drift 13 = .ok (.i2l, 1) := dk_133 (dk_at dksX0_drift_0 13 rfl rfl)
theorem dX0_drift_14 : decode cX0_drift 14 = .ok (.lconst 0, 1) := dk_9 (dk_at dksX0_drift_0 14 rfl rfl)
theorem dX0_drift_15 : decode cX0_drift 15 = .ok (.lconst 1, 1) := dk_10 (dk_at dksX0_drift_0 15 rfl rfl)
theorem dX0_drift_16 : decode cX0_drift 16 = .ok (.invokestatic 3, 3) := dk_184 0 3 (dk_at dksX0_drift_0 16 rfl rfl)
theorem dX0_drift_19 : decode cX0_drift 19 = .ok (.ifCond .ne 5, 3) := dk_154 0 5 (dk_at dksX0_drift_0 19 rfl rfl)
theorem dX0_drift_22 : decode cX0_drift 22 = .ok (.iconst (-1), 1) := dk_2 (dk_at dksX0_drift_0 22 rfl rfl)
theorem dX0_drift_23 : decode cX0_drift 23 = .ok (.ireturn, 1) := dk_172 (dk_at dksX0_drift_0 23 rfl rfl)
theorem dX0_drift_24 : decode cX0_drift 24 = .ok (.aload_n 0, 1) := dk_42 (dk_at dksX0_drift_1 0 rfl rfl)
theorem dX0_drift_25 : decode cX0_drift 25 = .ok (.getfield 33, 3) := dk_180 0 33 (dk_at dksX0_drift_1 1 rfl rfl)
theorem dX0_drift_28 : decode cX0_drift 28 = .ok (.getfield 86, 3) := dk_180 0 86 (dk_at dksX0_drift_1 4 rfl rfl)
theorem dX0_drift_31 : decode cX0_drift 31 = .ok (.ifCond .ne 6, 3) := dk_154 0 6 (dk_at dksX0_drift_1 7 rfl rfl)
theorem dX0_drift_34 : decode cX0_drift 34 = .ok (.bipush (-2), 2) := dk_16 254 (dk_at dksX0_drift_1 10 rfl rfl)
theorem dX0_drift_36 : decode cX0_drift 36 = .ok (.ireturn, 1) := dk_172 (dk_at dksX0_drift_1 12 rfl rfl)
theorem dX0_drift_37 : decode cX0_drift 37 = .ok (.iload_n 1, 1) := dk_27 (dk_at dksX0_drift_1 13 rfl rfl)
theorem dX0_drift_38 : decode cX0_drift 38 = .ok (.istore 4, 2) := dk_54 4 (dk_at dksX0_drift_1 14 rfl rfl)
theorem dX0_drift_40 : decode cX0_drift 40 = .ok (.aload_n 0, 1) := dk_42 (dk_at dksX0_drift_1 16 rfl rfl)
theorem dX0_drift_41 : decode cX0_drift 41 = .ok (.getfield 206, 3) := dk_180 0 206 (dk_at dksX0_drift_1 17 rfl rfl)
theorem dX0_drift_44 : decode cX0_drift 44 = .ok (.aload_n 0, 1) := dk_42 (dk_at dksX0_drift_1 20 rfl rfl)
theorem dX0_drift_45 : decode cX0_drift 45 = .ok (.getfield 33, 3) := dk_180 0 33 (dk_at dksX0_drift_1 21 rfl rfl)
theorem dX0_drift_48 : decode cX0_drift 48 = .ok (.invokevirtual 40, 3) := dk_182 0 40 (dk_at dksX0_drift_2 0 rfl rfl)
theorem dX0_drift_51 : decode cX0_drift 51 = .ok (.iconst 0, 1) := dk_3 (dk_at dksX0_drift_2 3 rfl rfl)
theorem dX0_drift_52 : decode cX0_drift 52 = .ok (.istore 5, 2) := dk_54 5 (dk_at dksX0_drift_2 4 rfl rfl)
theorem dX0_drift_54 : decode cX0_drift 54 = .ok (.iload 5, 2) := dk_21 5 (dk_at dksX0_drift_2 6 rfl rfl)
theorem dX0_drift_56 : decode cX0_drift 56 = .ok (.iload_n 2, 1) := dk_28 (dk_at dksX0_drift_2 8 rfl rfl)
theorem dX0_drift_57 : decode cX0_drift 57 = .ok (.if_icmp .ge 90, 3) := dk_162 0 90 (dk_at dksX0_drift_2 9 rfl rfl)
theorem dX0_drift_60 : decode cX0_drift 60 = .ok (.iload 4, 2) := dk_21 4 (dk_at dksX0_drift_2 12 rfl rfl)
theorem dX0_drift_62 : decode cX0_drift 62 = .ok (.ldc_w 314, 3) := dk_19 1 58 (dk_at dksX0_drift_2 14 rfl rfl)
theorem dX0_drift_65 : decode cX0_drift 65 = .ok (.imul, 1) := dk_104 (dk_at dksX0_drift_2 17 rfl rfl)
theorem dX0_drift_66 : decode cX0_drift 66 = .ok (.sipush 12345, 3) := dk_17 48 57 (dk_at dksX0_drift_2 18 rfl rfl)
theorem dX0_drift_69 : decode cX0_drift 69 = .ok (.iadd, 1) := dk_96 (dk_at dksX0_drift_2 21 rfl rfl)
theorem dX0_drift_70 : decode cX0_drift 70 = .ok (.istore 4, 2) := dk_54 4 (dk_at dksX0_drift_2 22 rfl rfl)
theorem dX0_drift_72 : decode cX0_drift 72 = .ok (.iload 4, 2) := dk_21 4 (dk_at dksX0_drift_3 0 rfl rfl)
theorem dX0_drift_74 : decode cX0_drift 74 = .ok (.bipush 16, 2) := dk_16 16 (dk_at dksX0_drift_3 2 rfl rfl)
theorem dX0_drift_76 : decode cX0_drift 76 = .ok (.ishr, 1) := dk_122 (dk_at dksX0_drift_3 4 rfl rfl)
theorem dX0_drift_77 : decode cX0_drift 77 = .ok (.sipush 32767, 3) := dk_17 127 255 (dk_at dksX0_drift_3 5 rfl rfl)
theorem dX0_drift_80 : decode cX0_drift 80 = .ok (.iand, 1) := dk_126 (dk_at dksX0_drift_3 8 rfl rfl)
theorem dX0_drift_81 : decode cX0_drift 81 = .ok (.aload_n 0, 1) := dk_42 (dk_at dksX0_drift_3 9 rfl rfl)
theorem dX0_drift_82 : decode cX0_drift 82 = .ok (.getfield 33, 3) := dk_180 0 33 (dk_at dksX0_drift_3 10 rfl rfl)
theorem dX0_drift_85 : decode cX0_drift 85 = .ok (.getfield 86, 3) := dk_180 0 86 (dk_at dksX0_drift_3 13 rfl rfl)
theorem dX0_drift_88 : decode cX0_drift 88 = .ok (.irem, 1) := dk_112 (dk_at dksX0_drift_3 16 rfl rfl)
theorem dX0_drift_89 : decode cX0_drift 89 = .ok (.istore 6, 2) := dk_54 6 (dk_at dksX0_drift_3 17 rfl rfl)
theorem dX0_drift_91 : decode cX0_drift 91 = .ok (.aload_n 0, 1) := dk_42 (dk_at dksX0_drift_3 19 rfl rfl)
theorem dX0_drift_92 : decode cX0_drift 92 = .ok (.getfield 206, 3) := dk_180 0 206 (dk_at dksX0_drift_3 20 rfl rfl)
theorem dX0_drift_95 : decode cX0_drift 95 = .ok (.getfield 134, 3) := dk_180 0 134 (dk_at dksX0_drift_4 0 rfl rfl)
theorem dX0_drift_98 : decode cX0_drift 98 = .ok (.iload 6, 2) := dk_21 6 (dk_at dksX0_drift_4 3 rfl rfl)
theorem dX0_drift_100 : decode cX0_drift 100 = .ok (.dup2, 1) := dk_92 (dk_at dksX0_drift_4 5 rfl rfl)
theorem dX0_drift_101 : decode cX0_drift 101 = .ok (.iaload, 1) := dk_46 (dk_at dksX0_drift_4 6 rfl rfl)
theorem dX0_drift_102 : decode cX0_drift 102 = .ok (.aload_n 0, 1) := dk_42 (dk_at dksX0_drift_4 7 rfl rfl)
theorem dX0_drift_103 : decode cX0_drift 103 = .ok (.getfield 206, 3) := dk_180 0 206 (dk_at dksX0_drift_4 8 rfl rfl)
theorem dX0_drift_106 : decode cX0_drift 106 = .ok (.iload 6, 2) := dk_21 6 (dk_at dksX0_drift_4 11 rfl rfl)
theorem dX0_drift_108 : decode cX0_drift 108 = .ok (.invokevirtual 191, 3) := dk_182 0 191 (dk_at dksX0_drift_4 13 rfl rfl)
theorem dX0_drift_111 : decode cX0_drift 111 = .ok (.ifCond .ne 20, 3) := dk_154 0 20 (dk_at dksX0_drift_4 16 rfl rfl)
theorem dX0_drift_114 : decode cX0_drift 114 = .ok (.aload_n 0, 1) := dk_42 (dk_at dksX0_drift_4 19 rfl rfl)
theorem dX0_drift_115 : decode cX0_drift 115 = .ok (.getfield 206, 3) := dk_180 0 206 (dk_at dksX0_drift_4 20 rfl rfl)
theorem dX0_drift_118 : decode cX0_drift 118 = .ok (.getfield 134, 3) := dk_180 0 134 (dk_at dksX0_drift_5 0 rfl rfl)
theorem dX0_drift_121 : decode cX0_drift 121 = .ok (.iload 6, 2) := dk_21 6 (dk_at dksX0_drift_5 3 rfl rfl)
theorem dX0_drift_123 : decode cX0_drift 123 = .ok (.iaload, 1) := dk_46 (dk_at dksX0_drift_5 5 rfl rfl)
theorem dX0_drift_124 : decode cX0_drift 124 = .ok (.ifCond .le 7, 3) := dk_158 0 7 (dk_at dksX0_drift_5 6 rfl rfl)
theorem dX0_drift_127 : decode cX0_drift 127 = .ok (.iconst 1, 1) := dk_4 (dk_at dksX0_drift_5 9 rfl rfl)
theorem dX0_drift_128 : decode cX0_drift 128 = .ok (.goto 4, 3) := dk_167 0 4 (dk_at dksX0_drift_5 10 rfl rfl)
theorem dX0_drift_131 : decode cX0_drift 131 = .ok (.iconst 0, 1) := dk_3 (dk_at dksX0_drift_5 13 rfl rfl)
theorem dX0_drift_132 : decode cX0_drift 132 = .ok (.isub, 1) := dk_100 (dk_at dksX0_drift_5 14 rfl rfl)
theorem dX0_drift_133 : decode cX0_drift 133 = .ok (.iastore, 1) := dk_79 (dk_at dksX0_drift_5 15 rfl rfl)
theorem dX0_drift_134 : decode cX0_drift 134 = .ok (.aload_n 0, 1) := dk_42 (dk_at dksX0_drift_5 16 rfl rfl)
theorem dX0_drift_135 : decode cX0_drift 135 = .ok (.getfield 206, 3) := dk_180 0 206 (dk_at dksX0_drift_5 17 rfl rfl)
theorem dX0_drift_138 : decode cX0_drift 138 = .ok (.invokevirtual 198, 3) := dk_182 0 198 (dk_at dksX0_drift_5 20 rfl rfl)
theorem dX0_drift_141 : decode cX0_drift 141 = .ok (.iinc 5 1, 3) := dk_132 5 1 (dk_at dksX0_drift_6 0 rfl rfl)
theorem dX0_drift_144 : decode cX0_drift 144 = .ok (.goto (-90), 3) := dk_167 255 166 (dk_at dksX0_drift_6 3 rfl rfl)
theorem dX0_drift_147 : decode cX0_drift 147 = .ok (.aload_n 0, 1) := dk_42 (dk_at dksX0_drift_6 6 rfl rfl)
theorem dX0_drift_148 : decode cX0_drift 148 = .ok (.getfield 206, 3) := dk_180 0 206 (dk_at dksX0_drift_6 7 rfl rfl)
theorem dX0_drift_151 : decode cX0_drift 151 = .ok (.iload_n 3, 1) := dk_29 (dk_at dksX0_drift_6 10 rfl rfl)
theorem dX0_drift_152 : decode cX0_drift 152 = .ok (.ifCond .ne 7, 3) := dk_154 0 7 (dk_at dksX0_drift_6 11 rfl rfl)
theorem dX0_drift_155 : decode cX0_drift 155 = .ok (.iconst 1, 1) := dk_4 (dk_at dksX0_drift_6 14 rfl rfl)
theorem dX0_drift_156 : decode cX0_drift 156 = .ok (.goto 4, 3) := dk_167 0 4 (dk_at dksX0_drift_6 15 rfl rfl)
theorem dX0_drift_159 : decode cX0_drift 159 = .ok (.iconst 0, 1) := dk_3 (dk_at dksX0_drift_6 18 rfl rfl)
theorem dX0_drift_160 : decode cX0_drift 160 = .ok (.invokestatic 315, 3) := dk_184 1 59 (dk_at dksX0_drift_6 19 rfl rfl)
theorem dX0_drift_163 : decode cX0_drift 163 = .ok (.ireturn, 1) := dk_172 (dk_at dksX0_drift_6 22 rfl rfl)
abbrev cX0_sum : ByteArray := prog_1_method_56_code
def yX0_sum : MethodName := ⟨RX0, "sum", "(LEchoPens$Farm;Z)I"⟩
def dkwX0_sum_2 : List UInt8 := [132, 3, 1, 167, 255, 211, 28, 172]
abbrev dktX0_sum_2 : List UInt8 := dkwX0_sum_2 ++ []
def dkwX0_sum_1 : List UInt8 := [167, 0, 22, 27, 153, 0, 12, 42, 180, 0, 125, 29, 46, 167, 0, 9, 42, 180, 0, 134, 29, 46, 96, 61]
abbrev dktX0_sum_1 : List UInt8 := dkwX0_sum_1 ++ dktX0_sum_2
def dkwX0_sum_0 : List UInt8 := [3, 61, 3, 62, 29, 42, 180, 0, 86, 162, 0, 43, 28, 42, 29, 182, 0, 191, 153, 0, 7, 3]
abbrev dktX0_sum_0 : List UInt8 := dkwX0_sum_0 ++ dktX0_sum_1
theorem dksX0_sum_0 : cX0_sum.data.toList.drop 0 = dktX0_sum_0 := by decide +kernel
theorem dksX0_sum_1 : cX0_sum.data.toList.drop 22 = dktX0_sum_1 := dk_seg dksX0_sum_0 22 rfl rfl
theorem dksX0_sum_2 : cX0_sum.data.toList.drop 46 = dktX0_sum_2 := dk_seg dksX0_sum_1 24 rfl rfl
theorem dX0_sum_0 : decode cX0_sum 0 = .ok (.iconst 0, 1) := dk_3 (dk_at dksX0_sum_0 0 rfl rfl)
theorem dX0_sum_1 : decode cX0_sum 1 = .ok (.istore_n 2, 1) := dk_61 (dk_at dksX0_sum_0 1 rfl rfl)
theorem dX0_sum_2 : decode cX0_sum 2 = .ok (.iconst 0, 1) := dk_3 (dk_at dksX0_sum_0 2 rfl rfl)
theorem dX0_sum_3 : decode cX0_sum 3 = .ok (.istore_n 3, 1) := dk_62 (dk_at dksX0_sum_0 3 rfl rfl)
theorem dX0_sum_4 : decode cX0_sum 4 = .ok (.iload_n 3, 1) := dk_29 (dk_at dksX0_sum_0 4 rfl rfl)
theorem dX0_sum_5 : decode cX0_sum 5 = .ok (.aload_n 0, 1) := dk_42 (dk_at dksX0_sum_0 5 rfl rfl)
theorem dX0_sum_6 : decode cX0_sum 6 = .ok (.getfield 86, 3) := dk_180 0 86 (dk_at dksX0_sum_0 6 rfl rfl)
theorem dX0_sum_9 : decode cX0_sum 9 = .ok (.if_icmp .ge 43, 3) := dk_162 0 43 (dk_at dksX0_sum_0 9 rfl rfl)
theorem dX0_sum_12 : decode cX0_sum 12 = .ok (.iload_n 2, 1) := dk_28 (dk_at dksX0_sum_0 12 rfl rfl)
theorem dX0_sum_13 : decode cX0_sum 13 = .ok (.aload_n 0, 1) := dk_42 (dk_at dksX0_sum_0 13 rfl rfl)
theorem dX0_sum_14 : decode cX0_sum 14 = .ok (.iload_n 3, 1) := dk_29 (dk_at dksX0_sum_0 14 rfl rfl)
theorem dX0_sum_15 : decode cX0_sum 15 = .ok (.invokevirtual 191, 3) := dk_182 0 191 (dk_at dksX0_sum_0 15 rfl rfl)
theorem dX0_sum_18 : decode cX0_sum 18 = .ok (.ifCond .eq 7, 3) := dk_153 0 7 (dk_at dksX0_sum_0 18 rfl rfl)
theorem dX0_sum_21 : decode cX0_sum 21 = .ok (.iconst 0, 1) := dk_3 (dk_at dksX0_sum_0 21 rfl rfl)
theorem dX0_sum_22 : decode cX0_sum 22 = .ok (.goto 22, 3) := dk_167 0 22 (dk_at dksX0_sum_1 0 rfl rfl)
theorem dX0_sum_25 : decode cX0_sum 25 = .ok (.iload_n 1, 1) := dk_27 (dk_at dksX0_sum_1 3 rfl rfl)
theorem dX0_sum_26 : decode cX0_sum 26 = .ok (.ifCond .eq 12, 3) := dk_153 0 12 (dk_at dksX0_sum_1 4 rfl rfl)
theorem dX0_sum_29 : decode cX0_sum 29 = .ok (.aload_n 0, 1) := dk_42 (dk_at dksX0_sum_1 7 rfl rfl)
theorem dX0_sum_30 : decode cX0_sum 30 = .ok (.getfield 125, 3) := dk_180 0 125 (dk_at dksX0_sum_1 8 rfl rfl)
theorem dX0_sum_33 : decode cX0_sum 33 = .ok (.iload_n 3, 1) := dk_29 (dk_at dksX0_sum_1 11 rfl rfl)
theorem dX0_sum_34 : decode cX0_sum 34 = .ok (.iaload, 1) := dk_46 (dk_at dksX0_sum_1 12 rfl rfl)
theorem dX0_sum_35 : decode cX0_sum 35 = .ok (.goto 9, 3) := dk_167 0 9 (dk_at dksX0_sum_1 13 rfl rfl)
theorem dX0_sum_38 : decode cX0_sum 38 = .ok (.aload_n 0, 1) := dk_42 (dk_at dksX0_sum_1 16 rfl rfl)
theorem dX0_sum_39 : decode cX0_sum 39 = .ok (.getfield 134, 3) := dk_180 0 134 (dk_at dksX0_sum_1 17 rfl rfl)
theorem dX0_sum_42 : decode cX0_sum 42 = .ok (.iload_n 3, 1) := dk_29 (dk_at dksX0_sum_1 20 rfl rfl)
theorem dX0_sum_43 : decode cX0_sum 43 = .ok (.iaload, 1) := dk_46 (dk_at dksX0_sum_1 21 rfl rfl)
theorem dX0_sum_44 : decode cX0_sum 44 = .ok (.iadd, 1) := dk_96 (dk_at dksX0_sum_1 22 rfl rfl)
theorem dX0_sum_45 : decode cX0_sum 45 = .ok (.istore_n 2, 1) := dk_61 (dk_at dksX0_sum_1 23 rfl rfl)
theorem dX0_sum_46 : decode cX0_sum 46 = .ok (.iinc 3 1, 3) := dk_132 3 1 (dk_at dksX0_sum_2 0 rfl rfl)
theorem dX0_sum_49 : decode cX0_sum 49 = .ok (.goto (-45), 3) := dk_167 255 211 (dk_at dksX0_sum_2 3 rfl rfl)
theorem dX0_sum_52 : decode cX0_sum 52 = .ok (.iload_n 2, 1) := dk_28 (dk_at dksX0_sum_2 6 rfl rfl)
theorem dX0_sum_53 : decode cX0_sum 53 = .ok (.ireturn, 1) := dk_172 (dk_at dksX0_sum_2 7 rfl rfl)
abbrev cX0_keep : ByteArray := prog_1_method_58_code
def yX0_keep : MethodName := ⟨RX0, "keep", "(I)I"⟩
def dkwX0_keep_2 : List UInt8 := [181, 0, 66, 28, 172]
abbrev dktX0_keep_2 : List UInt8 := dkwX0_keep_2 ++ []
def dkwX0_keep_1 : List UInt8 := [4, 167, 0, 4, 3, 61, 42, 180, 0, 62, 27, 50, 182, 1, 63, 42, 180, 0, 62, 27, 50, 4]
abbrev dktX0_keep_1 : List UInt8 := dkwX0_keep_1 ++ dktX0_keep_2
def dkwX0_keep_0 : List UInt8 := [27, 133, 9, 10, 184, 0, 3, 154, 0, 5, 2, 172, 42, 180, 0, 62, 27, 50, 180, 0, 66, 153, 0, 7]
abbrev dktX0_keep_0 : List UInt8 := dkwX0_keep_0 ++ dktX0_keep_1
theorem dksX0_keep_0 : cX0_keep.data.toList.drop 0 = dktX0_keep_0 := by decide +kernel
theorem dksX0_keep_1 : cX0_keep.data.toList.drop 24 = dktX0_keep_1 := dk_seg dksX0_keep_0 24 rfl rfl
theorem dksX0_keep_2 : cX0_keep.data.toList.drop 46 = dktX0_keep_2 := dk_seg dksX0_keep_1 22 rfl rfl
theorem dX0_keep_0 : decode cX0_keep 0 = .ok (.iload_n 1, 1) := dk_27 (dk_at dksX0_keep_0 0 rfl rfl)
theorem dX0_keep_1 : decode cX0_keep 1 = .ok (.i2l, 1) := dk_133 (dk_at dksX0_keep_0 1 rfl rfl)
theorem dX0_keep_2 : decode cX0_keep 2 = .ok (.lconst 0, 1) := dk_9 (dk_at dksX0_keep_0 2 rfl rfl)
theorem dX0_keep_3 : decode cX0_keep 3 = .ok (.lconst 1, 1) := dk_10 (dk_at dksX0_keep_0 3 rfl rfl)
theorem dX0_keep_4 : decode cX0_keep 4 = .ok (.invokestatic 3, 3) := dk_184 0 3 (dk_at dksX0_keep_0 4 rfl rfl)
theorem dX0_keep_7 : decode cX0_keep 7 = .ok (.ifCond .ne 5, 3) := dk_154 0 5 (dk_at dksX0_keep_0 7 rfl rfl)
theorem dX0_keep_10 : decode cX0_keep 10 = .ok (.iconst (-1), 1) := dk_2 (dk_at dksX0_keep_0 10 rfl rfl)
theorem dX0_keep_11 : decode cX0_keep 11 = .ok (.ireturn, 1) := dk_172 (dk_at dksX0_keep_0 11 rfl rfl)
theorem dX0_keep_12 : decode cX0_keep 12 = .ok (.aload_n 0, 1) := dk_42 (dk_at dksX0_keep_0 12 rfl rfl)
theorem dX0_keep_13 : decode cX0_keep 13 = .ok (.getfield 62, 3) := dk_180 0 62 (dk_at dksX0_keep_0 13 rfl rfl)
theorem dX0_keep_16 : decode cX0_keep 16 = .ok (.iload_n 1, 1) := dk_27 (dk_at dksX0_keep_0 16 rfl rfl)
theorem dX0_keep_17 : decode cX0_keep 17 = .ok (.aaload, 1) := dk_50 (dk_at dksX0_keep_0 17 rfl rfl)
theorem dX0_keep_18 : decode cX0_keep 18 = .ok (.getfield 66, 3) := dk_180 0 66 (dk_at dksX0_keep_0 18 rfl rfl)
theorem dX0_keep_21 : decode cX0_keep 21 = .ok (.ifCond .eq 7, 3) := dk_153 0 7 (dk_at dksX0_keep_0 21 rfl rfl)
theorem dX0_keep_24 : decode cX0_keep 24 = .ok (.iconst 1, 1) := dk_4 (dk_at dksX0_keep_1 0 rfl rfl)
theorem dX0_keep_25 : decode cX0_keep 25 = .ok (.goto 4, 3) := dk_167 0 4 (dk_at dksX0_keep_1 1 rfl rfl)
theorem dX0_keep_28 : decode cX0_keep 28 = .ok (.iconst 0, 1) := dk_3 (dk_at dksX0_keep_1 4 rfl rfl)
theorem dX0_keep_29 : decode cX0_keep 29 = .ok (.istore_n 2, 1) := dk_61 (dk_at dksX0_keep_1 5 rfl rfl)
theorem dX0_keep_30 : decode cX0_keep 30 = .ok (.aload_n 0, 1) := dk_42 (dk_at dksX0_keep_1 6 rfl rfl)
theorem dX0_keep_31 : decode cX0_keep 31 = .ok (.getfield 62, 3) := dk_180 0 62 (dk_at dksX0_keep_1 7 rfl rfl)
theorem dX0_keep_34 : decode cX0_keep 34 = .ok (.iload_n 1, 1) := dk_27 (dk_at dksX0_keep_1 10 rfl rfl)
theorem dX0_keep_35 : decode cX0_keep 35 = .ok (.aaload, 1) := dk_50 (dk_at dksX0_keep_1 11 rfl rfl)
theorem dX0_keep_36 : decode cX0_keep 36 = .ok (.invokevirtual 319, 3) := dk_182 1 63 (dk_at dksX0_keep_1 12 rfl rfl)
theorem dX0_keep_39 : decode cX0_keep 39 = .ok (.aload_n 0, 1) := dk_42 (dk_at dksX0_keep_1 15 rfl rfl)
theorem dX0_keep_40 : decode cX0_keep 40 = .ok (.getfield 62, 3) := dk_180 0 62 (dk_at dksX0_keep_1 16 rfl rfl)
theorem dX0_keep_43 : decode cX0_keep 43 = .ok (.iload_n 1, 1) := dk_27 (dk_at dksX0_keep_1 19 rfl rfl)
theorem dX0_keep_44 : decode cX0_keep 44 = .ok (.aaload, 1) := dk_50 (dk_at dksX0_keep_1 20 rfl rfl)
theorem dX0_keep_45 : decode cX0_keep 45 = .ok (.iconst 1, 1) := dk_4 (dk_at dksX0_keep_1 21 rfl rfl)
theorem dX0_keep_46 : decode cX0_keep 46 = .ok (.putfield 66, 3) := dk_181 0 66 (dk_at dksX0_keep_2 0 rfl rfl)
theorem dX0_keep_49 : decode cX0_keep 49 = .ok (.iload_n 2, 1) := dk_28 (dk_at dksX0_keep_2 3 rfl rfl)
theorem dX0_keep_50 : decode cX0_keep 50 = .ok (.ireturn, 1) := dk_172 (dk_at dksX0_keep_2 4 rfl rfl)
abbrev cX0_copies : ByteArray := prog_1_method_57_code
def yX0_copies : MethodName := ⟨RX0, "copies", "([[I[[I)V"⟩
def dkwX0_copies_1 : List UInt8 := [132, 2, 1, 167, 255, 232, 177]
abbrev dktX0_copies_1 : List UInt8 := dkwX0_copies_1 ++ []
def dkwX0_copies_0 : List UInt8 := [3, 61, 28, 42, 190, 162, 0, 24, 42, 28, 50, 3, 43, 28, 50, 3, 42, 28, 50, 190, 184, 0, 17]
abbrev dktX0_copies_0 : List UInt8 := dkwX0_copies_0 ++ dktX0_copies_1
theorem dksX0_copies_0 : cX0_copies.data.toList.drop 0 = dktX0_copies_0 := by decide +kernel
theorem dksX0_copies_1 : cX0_copies.data.toList.drop 23 = dktX0_copies_1 := dk_seg dksX0_copies_0 23 rfl rfl
theorem dX0_copies_0 : decode cX0_copies 0 = .ok (.iconst 0, 1) := dk_3 (dk_at dksX0_copies_0 0 rfl rfl)
theorem dX0_copies_1 : decode cX0_copies 1 = .ok (.istore_n 2, 1) := dk_61 (dk_at dksX0_copies_0 1 rfl rfl)
theorem dX0_copies_2 : decode cX0_copies 2 = .ok (.iload_n 2, 1) := dk_28 (dk_at dksX0_copies_0 2 rfl rfl)
theorem dX0_copies_3 : decode cX0_copies 3 = .ok (.aload_n 0, 1) := dk_42 (dk_at dksX0_copies_0 3 rfl rfl)
theorem dX0_copies_4 : decode cX0_copies 4 = .ok (.arraylength, 1) := dk_190 (dk_at dksX0_copies_0 4 rfl rfl)
theorem dX0_copies_5 : decode cX0_copies 5 = .ok (.if_icmp .ge 24, 3) := dk_162 0 24 (dk_at dksX0_copies_0 5 rfl rfl)
theorem dX0_copies_8 : decode cX0_copies 8 = .ok (.aload_n 0, 1) := dk_42 (dk_at dksX0_copies_0 8 rfl rfl)
theorem dX0_copies_9 : decode cX0_copies 9 = .ok (.iload_n 2, 1) := dk_28 (dk_at dksX0_copies_0 9 rfl rfl)
theorem dX0_copies_10 : decode cX0_copies 10 = .ok (.aaload, 1) := dk_50 (dk_at dksX0_copies_0 10 rfl rfl)
theorem dX0_copies_11 : decode cX0_copies 11 = .ok (.iconst 0, 1) := dk_3 (dk_at dksX0_copies_0 11 rfl rfl)
theorem dX0_copies_12 : decode cX0_copies 12 = .ok (.aload_n 1, 1) := dk_43 (dk_at dksX0_copies_0 12 rfl rfl)
theorem dX0_copies_13 : decode cX0_copies 13 = .ok (.iload_n 2, 1) := dk_28 (dk_at dksX0_copies_0 13 rfl rfl)
theorem dX0_copies_14 : decode cX0_copies 14 = .ok (.aaload, 1) := dk_50 (dk_at dksX0_copies_0 14 rfl rfl)
theorem dX0_copies_15 : decode cX0_copies 15 = .ok (.iconst 0, 1) := dk_3 (dk_at dksX0_copies_0 15 rfl rfl)
theorem dX0_copies_16 : decode cX0_copies 16 = .ok (.aload_n 0, 1) := dk_42 (dk_at dksX0_copies_0 16 rfl rfl)
theorem dX0_copies_17 : decode cX0_copies 17 = .ok (.iload_n 2, 1) := dk_28 (dk_at dksX0_copies_0 17 rfl rfl)
theorem dX0_copies_18 : decode cX0_copies 18 = .ok (.aaload, 1) := dk_50 (dk_at dksX0_copies_0 18 rfl rfl)
theorem dX0_copies_19 : decode cX0_copies 19 = .ok (.arraylength, 1) := dk_190 (dk_at dksX0_copies_0 19 rfl rfl)
theorem dX0_copies_20 : decode cX0_copies 20 = .ok (.invokestatic 17, 3) := dk_184 0 17 (dk_at dksX0_copies_0 20 rfl rfl)
theorem dX0_copies_23 : decode cX0_copies 23 = .ok (.iinc 2 1, 3) := dk_132 2 1 (dk_at dksX0_copies_1 0 rfl rfl)
theorem dX0_copies_26 : decode cX0_copies 26 = .ok (.goto (-24), 3) := dk_167 255 232 (dk_at dksX0_copies_1 3 rfl rfl)
theorem dX0_copies_29 : decode cX0_copies 29 = .ok (.return_, 1) := dk_177 (dk_at dksX0_copies_1 6 rfl rfl)
abbrev cX0_back : ByteArray := prog_1_method_59_code
def yX0_back : MethodName := ⟨RX0, "back", "(I)I"⟩
def dkwX0_back_1 : List UInt8 := [16, 254, 172, 42, 180, 0, 62, 27, 50, 182, 1, 65, 42, 180, 0, 33, 180, 0, 92, 172]
abbrev dktX0_back_1 : List UInt8 := dkwX0_back_1 ++ []
def dkwX0_back_0 : List UInt8 := [27, 133, 9, 10, 184, 0, 3, 154, 0, 5, 2, 172, 42, 180, 0, 62, 27, 50, 180, 0, 66, 154, 0, 6]
abbrev dktX0_back_0 : List UInt8 := dkwX0_back_0 ++ dktX0_back_1
theorem dksX0_back_0 : cX0_back.data.toList.drop 0 = dktX0_back_0 := by decide +kernel
theorem dksX0_back_1 : cX0_back.data.toList.drop 24 = dktX0_back_1 := dk_seg dksX0_back_0 24 rfl rfl
theorem dX0_back_0 : decode cX0_back 0 = .ok (.iload_n 1, 1) := dk_27 (dk_at dksX0_back_0 0 rfl rfl)
theorem dX0_back_1 : decode cX0_back 1 = .ok (.i2l, 1) := dk_133 (dk_at dksX0_back_0 1 rfl rfl)
theorem dX0_back_2 : decode cX0_back 2 = .ok (.lconst 0, 1) := dk_9 (dk_at dksX0_back_0 2 rfl rfl)
theorem dX0_back_3 : decode cX0_back 3 = .ok (.lconst 1, 1) := dk_10 (dk_at dksX0_back_0 3 rfl rfl)
theorem dX0_back_4 : decode cX0_back 4 = .ok (.invokestatic 3, 3) := dk_184 0 3 (dk_at dksX0_back_0 4 rfl rfl)
theorem dX0_back_7 : decode cX0_back 7 = .ok (.ifCond .ne 5, 3) := dk_154 0 5 (dk_at dksX0_back_0 7 rfl rfl)
theorem dX0_back_10 : decode cX0_back 10 = .ok (.iconst (-1), 1) := dk_2 (dk_at dksX0_back_0 10 rfl rfl)
theorem dX0_back_11 : decode cX0_back 11 = .ok (.ireturn, 1) := dk_172 (dk_at dksX0_back_0 11 rfl rfl)
theorem dX0_back_12 : decode cX0_back 12 = .ok (.aload_n 0, 1) := dk_42 (dk_at dksX0_back_0 12 rfl rfl)
theorem dX0_back_13 : decode cX0_back 13 = .ok (.getfield 62, 3) := dk_180 0 62 (dk_at dksX0_back_0 13 rfl rfl)
theorem dX0_back_16 : decode cX0_back 16 = .ok (.iload_n 1, 1) := dk_27 (dk_at dksX0_back_0 16 rfl rfl)
theorem dX0_back_17 : decode cX0_back 17 = .ok (.aaload, 1) := dk_50 (dk_at dksX0_back_0 17 rfl rfl)
theorem dX0_back_18 : decode cX0_back 18 = .ok (.getfield 66, 3) := dk_180 0 66 (dk_at dksX0_back_0 18 rfl rfl)
theorem dX0_back_21 : decode cX0_back 21 = .ok (.ifCond .ne 6, 3) := dk_154 0 6 (dk_at dksX0_back_0 21 rfl rfl)
theorem dX0_back_24 : decode cX0_back 24 = .ok (.bipush (-2), 2) := dk_16 254 (dk_at dksX0_back_1 0 rfl rfl)
theorem dX0_back_26 : decode cX0_back 26 = .ok (.ireturn, 1) := dk_172 (dk_at dksX0_back_1 2 rfl rfl)
theorem dX0_back_27 : decode cX0_back 27 = .ok (.aload_n 0, 1) := dk_42 (dk_at dksX0_back_1 3 rfl rfl)
theorem dX0_back_28 : decode cX0_back 28 = .ok (.getfield 62, 3) := dk_180 0 62 (dk_at dksX0_back_1 4 rfl rfl)
theorem dX0_back_31 : decode cX0_back 31 = .ok (.iload_n 1, 1) := dk_27 (dk_at dksX0_back_1 7 rfl rfl)
theorem dX0_back_32 : decode cX0_back 32 = .ok (.aaload, 1) := dk_50 (dk_at dksX0_back_1 8 rfl rfl)
theorem dX0_back_33 : decode cX0_back 33 = .ok (.invokevirtual 321, 3) := dk_182 1 65 (dk_at dksX0_back_1 9 rfl rfl)
theorem dX0_back_36 : decode cX0_back 36 = .ok (.aload_n 0, 1) := dk_42 (dk_at dksX0_back_1 12 rfl rfl)
theorem dX0_back_37 : decode cX0_back 37 = .ok (.getfield 33, 3) := dk_180 0 33 (dk_at dksX0_back_1 13 rfl rfl)
theorem dX0_back_40 : decode cX0_back 40 = .ok (.getfield 92, 3) := dk_180 0 92 (dk_at dksX0_back_1 16 rfl rfl)
theorem dX0_back_43 : decode cX0_back 43 = .ok (.ireturn, 1) := dk_172 (dk_at dksX0_back_1 19 rfl rfl)
abbrev cX0_init : ByteArray := prog_1_method_60_code
def yX0_init : MethodName := ⟨RX0, "<init>", "()V"⟩
def dkwX0_init_8 : List UInt8 := [177]
abbrev dktX0_init_8 : List UInt8 := dkwX0_init_8 ++ []
def dkwX0_init_7 : List UInt8 := [83, 89, 5, 187, 1, 80, 89, 183, 1, 82, 83, 89, 6, 187, 1, 80, 89, 183, 1, 82, 83, 181, 1, 83]
abbrev dktX0_init_7 : List UInt8 := dkwX0_init_7 ++ dktX0_init_8
def dkwX0_init_6 : List UInt8 := [42, 7, 189, 1, 80, 89, 3, 187, 1, 80, 89, 183, 1, 82, 83, 89, 4, 187, 1, 80, 89, 183, 1, 82]
abbrev dktX0_init_6 : List UInt8 := dkwX0_init_6 ++ dktX0_init_7
def dkwX0_init_5 : List UInt8 := [4, 187, 0, 67, 89, 42, 183, 1, 74, 83, 181, 0, 62, 42, 187, 0, 41, 89, 183, 1, 72, 181, 1, 77]
abbrev dktX0_init_5 : List UInt8 := dkwX0_init_5 ++ dktX0_init_6
def dkwX0_init_4 : List UInt8 := [197, 1, 73, 2, 181, 1, 54, 42, 5, 189, 0, 67, 89, 3, 187, 0, 67, 89, 42, 183, 1, 74, 83, 89]
abbrev dktX0_init_4 : List UInt8 := dkwX0_init_4 ++ dktX0_init_5
def dkwX0_init_3 : List UInt8 := [188, 10, 181, 0, 255, 42, 8, 188, 10, 181, 1, 9, 42, 16, 6, 188, 10, 181, 1, 12, 42, 16, 6, 6]
abbrev dktX0_init_3 : List UInt8 := dkwX0_init_3 ++ dktX0_init_4
def dkwX0_init_2 : List UInt8 := [181, 0, 235, 42, 7, 188, 10, 181, 0, 238, 42, 187, 0, 41, 89, 183, 1, 72, 181, 0, 249, 42, 8]
abbrev dktX0_init_2 : List UInt8 := dkwX0_init_2 ++ dktX0_init_3
def dkwX0_init_1 : List UInt8 := [42, 7, 189, 0, 148, 181, 0, 50, 42, 187, 0, 41, 89, 183, 1, 72, 181, 0, 206, 42, 7, 188, 10]
abbrev dktX0_init_1 : List UInt8 := dkwX0_init_1 ++ dktX0_init_2
def dkwX0_init_0 : List UInt8 := [42, 183, 1, 68, 42, 17, 0, 160, 188, 8, 181, 0, 13, 42, 187, 0, 41, 89, 183, 1, 72, 181, 0, 33]
abbrev dktX0_init_0 : List UInt8 := dkwX0_init_0 ++ dktX0_init_1
theorem dksX0_init_0 : cX0_init.data.toList.drop 0 = dktX0_init_0 := by decide +kernel
theorem dksX0_init_1 : cX0_init.data.toList.drop 24 = dktX0_init_1 := dk_seg dksX0_init_0 24 rfl rfl
theorem dksX0_init_2 : cX0_init.data.toList.drop 47 = dktX0_init_2 := dk_seg dksX0_init_1 23 rfl rfl
theorem dksX0_init_3 : cX0_init.data.toList.drop 70 = dktX0_init_3 := dk_seg dksX0_init_2 23 rfl rfl
theorem dksX0_init_4 : cX0_init.data.toList.drop 94 = dktX0_init_4 := dk_seg dksX0_init_3 24 rfl rfl
theorem dksX0_init_5 : cX0_init.data.toList.drop 118 = dktX0_init_5 := dk_seg dksX0_init_4 24 rfl rfl
theorem dksX0_init_6 : cX0_init.data.toList.drop 142 = dktX0_init_6 := dk_seg dksX0_init_5 24 rfl rfl
theorem dksX0_init_7 : cX0_init.data.toList.drop 166 = dktX0_init_7 := dk_seg dksX0_init_6 24 rfl rfl
theorem dksX0_init_8 : cX0_init.data.toList.drop 190 = dktX0_init_8 := dk_seg dksX0_init_7 24 rfl rfl
theorem dX0_init_0 : decode cX0_init 0 = .ok (.aload_n 0, 1) := dk_42 (dk_at dksX0_init_0 0 rfl rfl)
theorem dX0_init_1 : decode cX0_init 1 = .ok (.invokespecial 324, 3) := dk_183 1 68 (dk_at dksX0_init_0 1 rfl rfl)
theorem dX0_init_4 : decode cX0_init 4 = .ok (.aload_n 0, 1) := dk_42 (dk_at dksX0_init_0 4 rfl rfl)
theorem dX0_init_5 : decode cX0_init 5 = .ok (.sipush 160, 3) := dk_17 0 160 (dk_at dksX0_init_0 5 rfl rfl)
theorem dX0_init_8 : decode cX0_init 8 = .ok (.newarray .byte, 2) := dk_188_8 (dk_at dksX0_init_0 8 rfl rfl)
theorem dX0_init_10 : decode cX0_init 10 = .ok (.putfield 13, 3) := dk_181 0 13 (dk_at dksX0_init_0 10 rfl rfl)
theorem dX0_init_13 : decode cX0_init 13 = .ok (.aload_n 0, 1) := dk_42 (dk_at dksX0_init_0 13 rfl rfl)
theorem dX0_init_14 : decode cX0_init 14 = .ok (.new 41, 3) := dk_187 0 41 (dk_at dksX0_init_0 14 rfl rfl)
theorem dX0_init_17 : decode cX0_init 17 = .ok (.dup, 1) := dk_89 (dk_at dksX0_init_0 17 rfl rfl)
theorem dX0_init_18 : decode cX0_init 18 = .ok (.invokespecial 328, 3) := dk_183 1 72 (dk_at dksX0_init_0 18 rfl rfl)
theorem dX0_init_21 : decode cX0_init 21 = .ok (.putfield 33, 3) := dk_181 0 33 (dk_at dksX0_init_0 21 rfl rfl)
theorem dX0_init_24 : decode cX0_init 24 = .ok (.aload_n 0, 1) := dk_42 (dk_at dksX0_init_1 0 rfl rfl)
theorem dX0_init_25 : decode cX0_init 25 = .ok (.iconst 4, 1) := dk_7 (dk_at dksX0_init_1 1 rfl rfl)
theorem dX0_init_26 : decode cX0_init 26 = .ok (.anewarray 148, 3) := dk_189 0 148 (dk_at dksX0_init_1 2 rfl rfl)
theorem dX0_init_29 : decode cX0_init 29 = .ok (.putfield 50, 3) := dk_181 0 50 (dk_at dksX0_init_1 5 rfl rfl)
theorem dX0_init_32 : decode cX0_init 32 = .ok (.aload_n 0, 1) := dk_42 (dk_at dksX0_init_1 8 rfl rfl)
theorem dX0_init_33 : decode cX0_init 33 = .ok (.new 41, 3) := dk_187 0 41 (dk_at dksX0_init_1 9 rfl rfl)
theorem dX0_init_36 : decode cX0_init 36 = .ok (.dup, 1) := dk_89 (dk_at dksX0_init_1 12 rfl rfl)
theorem dX0_init_37 : decode cX0_init 37 = .ok (.invokespecial 328, 3) := dk_183 1 72 (dk_at dksX0_init_1 13 rfl rfl)
theorem dX0_init_40 : decode cX0_init 40 = .ok (.putfield 206, 3) := dk_181 0 206 (dk_at dksX0_init_1 16 rfl rfl)
theorem dX0_init_43 : decode cX0_init 43 = .ok (.aload_n 0, 1) := dk_42 (dk_at dksX0_init_1 19 rfl rfl)
theorem dX0_init_44 : decode cX0_init 44 = .ok (.iconst 4, 1) := dk_7 (dk_at dksX0_init_1 20 rfl rfl)
theorem dX0_init_45 : decode cX0_init 45 = .ok (.newarray .int, 2) := dk_188_10 (dk_at dksX0_init_1 21 rfl rfl)
theorem dX0_init_47 : decode cX0_init 47 = .ok (.putfield 235, 3) := dk_181 0 235 (dk_at dksX0_init_2 0 rfl rfl)
theorem dX0_init_50 : decode cX0_init 50 = .ok (.aload_n 0, 1) := dk_42 (dk_at dksX0_init_2 3 rfl rfl)
theorem dX0_init_51 : decode cX0_init 51 = .ok (.iconst 4, 1) := dk_7 (dk_at dksX0_init_2 4 rfl rfl)
theorem dX0_init_52 : decode cX0_init 52 = .ok (.newarray .int, 2) := dk_188_10 (dk_at dksX0_init_2 5 rfl rfl)
theorem dX0_init_54 : decode cX0_init 54 = .ok (.putfield 238, 3) := dk_181 0 238 (dk_at dksX0_init_2 7 rfl rfl)
theorem dX0_init_57 : decode cX0_init 57 = .ok (.aload_n 0, 1) := dk_42 (dk_at dksX0_init_2 10 rfl rfl)
theorem dX0_init_58 : decode cX0_init 58 = .ok (.new 41, 3) := dk_187 0 41 (dk_at dksX0_init_2 11 rfl rfl)
theorem dX0_init_61 : decode cX0_init 61 = .ok (.dup, 1) := dk_89 (dk_at dksX0_init_2 14 rfl rfl)
theorem dX0_init_62 : decode cX0_init 62 = .ok (.invokespecial 328, 3) := dk_183 1 72 (dk_at dksX0_init_2 15 rfl rfl)
theorem dX0_init_65 : decode cX0_init 65 = .ok (.putfield 249, 3) := dk_181 0 249 (dk_at dksX0_init_2 18 rfl rfl)
theorem dX0_init_68 : decode cX0_init 68 = .ok (.aload_n 0, 1) := dk_42 (dk_at dksX0_init_2 21 rfl rfl)
theorem dX0_init_69 : decode cX0_init 69 = .ok (.iconst 5, 1) := dk_8 (dk_at dksX0_init_2 22 rfl rfl)
theorem dX0_init_70 : decode cX0_init 70 = .ok (.newarray .int, 2) := dk_188_10 (dk_at dksX0_init_3 0 rfl rfl)
theorem dX0_init_72 : decode cX0_init 72 = .ok (.putfield 255, 3) := dk_181 0 255 (dk_at dksX0_init_3 2 rfl rfl)
theorem dX0_init_75 : decode cX0_init 75 = .ok (.aload_n 0, 1) := dk_42 (dk_at dksX0_init_3 5 rfl rfl)
theorem dX0_init_76 : decode cX0_init 76 = .ok (.iconst 5, 1) := dk_8 (dk_at dksX0_init_3 6 rfl rfl)
theorem dX0_init_77 : decode cX0_init 77 = .ok (.newarray .int, 2) := dk_188_10 (dk_at dksX0_init_3 7 rfl rfl)
theorem dX0_init_79 : decode cX0_init 79 = .ok (.putfield 265, 3) := dk_181 1 9 (dk_at dksX0_init_3 9 rfl rfl)
theorem dX0_init_82 : decode cX0_init 82 = .ok (.aload_n 0, 1) := dk_42 (dk_at dksX0_init_3 12 rfl rfl)
theorem dX0_init_83 : decode cX0_init 83 = .ok (.bipush 6, 2) := dk_16 6 (dk_at dksX0_init_3 13 rfl rfl)
theorem dX0_init_85 : decode cX0_init 85 = .ok (.newarray .int, 2) := dk_188_10 (dk_at dksX0_init_3 15 rfl rfl)
theorem dX0_init_87 : decode cX0_init 87 = .ok (.putfield 268, 3) := dk_181 1 12 (dk_at dksX0_init_3 17 rfl rfl)
theorem dX0_init_90 : decode cX0_init 90 = .ok (.aload_n 0, 1) := dk_42 (dk_at dksX0_init_3 20 rfl rfl)
theorem dX0_init_91 : decode cX0_init 91 = .ok (.bipush 6, 2) := dk_16 6 (dk_at dksX0_init_3 21 rfl rfl)
theorem dX0_init_93 : decode cX0_init 93 = .ok (.iconst 3, 1) := dk_6 (dk_at dksX0_init_3 23 rfl rfl)
theorem dX0_init_94 : decode cX0_init 94 = .ok (.multianewarray 329 2, 4) := by decide +kernel
theorem dX0_init_98 : decode cX0_init 98 = .ok (.putfield 310, 3) := dk_181 1 54 (dk_at dksX0_init_4 4 rfl rfl)
theorem dX0_init_101 : decode cX0_init 101 = .ok (.aload_n 0, 1) := dk_42 (dk_at dksX0_init_4 7 rfl rfl)
theorem dX0_init_102 : decode cX0_init 102 = .ok (.iconst 2, 1) := dk_5 (dk_at dksX0_init_4 8 rfl rfl)
theorem dX0_init_103 : decode cX0_init 103 = .ok (.anewarray 67, 3) := dk_189 0 67 (dk_at dksX0_init_4 9 rfl rfl)
theorem dX0_init_106 : decode cX0_init 106 = .ok (.dup, 1) := dk_89 (dk_at dksX0_init_4 12 rfl rfl)
theorem dX0_init_107 : decode cX0_init 107 = .ok (.iconst 0, 1) := dk_3 (dk_at dksX0_init_4 13 rfl rfl)
theorem dX0_init_108 : decode cX0_init 108 = .ok (.new 67, 3) := dk_187 0 67 (dk_at dksX0_init_4 14 rfl rfl)
theorem dX0_init_111 : decode cX0_init 111 = .ok (.dup, 1) := dk_89 (dk_at dksX0_init_4 17 rfl rfl)
theorem dX0_init_112 : decode cX0_init 112 = .ok (.aload_n 0, 1) := dk_42 (dk_at dksX0_init_4 18 rfl rfl)
theorem dX0_init_113 : decode cX0_init 113 = .ok (.invokespecial 330, 3) := dk_183 1 74 (dk_at dksX0_init_4 19 rfl rfl)
theorem dX0_init_116 : decode cX0_init 116 = .ok (.aastore, 1) := dk_83 (dk_at dksX0_init_4 22 rfl rfl)
theorem dX0_init_117 : decode cX0_init 117 = .ok (.dup, 1) := dk_89 (dk_at dksX0_init_4 23 rfl rfl)
theorem dX0_init_118 : decode cX0_init 118 = .ok (.iconst 1, 1) := dk_4 (dk_at dksX0_init_5 0 rfl rfl)
theorem dX0_init_119 : decode cX0_init 119 = .ok (.new 67, 3) := dk_187 0 67 (dk_at dksX0_init_5 1 rfl rfl)
theorem dX0_init_122 : decode cX0_init 122 = .ok (.dup, 1) := dk_89 (dk_at dksX0_init_5 4 rfl rfl)
theorem dX0_init_123 : decode cX0_init 123 = .ok (.aload_n 0, 1) := dk_42 (dk_at dksX0_init_5 5 rfl rfl)
theorem dX0_init_124 : decode cX0_init 124 = .ok (.invokespecial 330, 3) := dk_183 1 74 (dk_at dksX0_init_5 6 rfl rfl)
theorem dX0_init_127 : decode cX0_init 127 = .ok (.aastore, 1) := dk_83 (dk_at dksX0_init_5 9 rfl rfl)
theorem dX0_init_128 : decode cX0_init 128 = .ok (.putfield 62, 3) := dk_181 0 62 (dk_at dksX0_init_5 10 rfl rfl)
theorem dX0_init_131 : decode cX0_init 131 = .ok (.aload_n 0, 1) := dk_42 (dk_at dksX0_init_5 13 rfl rfl)
theorem dX0_init_132 : decode cX0_init 132 = .ok (.new 41, 3) := dk_187 0 41 (dk_at dksX0_init_5 14 rfl rfl)
theorem dX0_init_135 : decode cX0_init 135 = .ok (.dup, 1) := dk_89 (dk_at dksX0_init_5 17 rfl rfl)
theorem dX0_init_136 : decode cX0_init 136 = .ok (.invokespecial 328, 3) := dk_183 1 72 (dk_at dksX0_init_5 18 rfl rfl)
theorem dX0_init_139 : decode cX0_init 139 = .ok (.putfield 333, 3) := dk_181 1 77 (dk_at dksX0_init_5 21 rfl rfl)
theorem dX0_init_142 : decode cX0_init 142 = .ok (.aload_n 0, 1) := dk_42 (dk_at dksX0_init_6 0 rfl rfl)
theorem dX0_init_143 : decode cX0_init 143 = .ok (.iconst 4, 1) := dk_7 (dk_at dksX0_init_6 1 rfl rfl)
theorem dX0_init_144 : decode cX0_init 144 = .ok (.anewarray 336, 3) := dk_189 1 80 (dk_at dksX0_init_6 2 rfl rfl)
theorem dX0_init_147 : decode cX0_init 147 = .ok (.dup, 1) := dk_89 (dk_at dksX0_init_6 5 rfl rfl)
theorem dX0_init_148 : decode cX0_init 148 = .ok (.iconst 0, 1) := dk_3 (dk_at dksX0_init_6 6 rfl rfl)
theorem dX0_init_149 : decode cX0_init 149 = .ok (.new 336, 3) := dk_187 1 80 (dk_at dksX0_init_6 7 rfl rfl)
theorem dX0_init_152 : decode cX0_init 152 = .ok (.dup, 1) := dk_89 (dk_at dksX0_init_6 10 rfl rfl)
theorem dX0_init_153 : decode cX0_init 153 = .ok (.invokespecial 338, 3) := dk_183 1 82 (dk_at dksX0_init_6 11 rfl rfl)
theorem dX0_init_156 : decode cX0_init 156 = .ok (.aastore, 1) := dk_83 (dk_at dksX0_init_6 14 rfl rfl)
theorem dX0_init_157 : decode cX0_init 157 = .ok (.dup, 1) := dk_89 (dk_at dksX0_init_6 15 rfl rfl)
theorem dX0_init_158 : decode cX0_init 158 = .ok (.iconst 1, 1) := dk_4 (dk_at dksX0_init_6 16 rfl rfl)
theorem dX0_init_159 : decode cX0_init 159 = .ok (.new 336, 3) := dk_187 1 80 (dk_at dksX0_init_6 17 rfl rfl)
theorem dX0_init_162 : decode cX0_init 162 = .ok (.dup, 1) := dk_89 (dk_at dksX0_init_6 20 rfl rfl)
theorem dX0_init_163 : decode cX0_init 163 = .ok (.invokespecial 338, 3) := dk_183 1 82 (dk_at dksX0_init_6 21 rfl rfl)
theorem dX0_init_166 : decode cX0_init 166 = .ok (.aastore, 1) := dk_83 (dk_at dksX0_init_7 0 rfl rfl)
theorem dX0_init_167 : decode cX0_init 167 = .ok (.dup, 1) := dk_89 (dk_at dksX0_init_7 1 rfl rfl)
theorem dX0_init_168 : decode cX0_init 168 = .ok (.iconst 2, 1) := dk_5 (dk_at dksX0_init_7 2 rfl rfl)
theorem dX0_init_169 : decode cX0_init 169 = .ok (.new 336, 3) := dk_187 1 80 (dk_at dksX0_init_7 3 rfl rfl)
theorem dX0_init_172 : decode cX0_init 172 = .ok (.dup, 1) := dk_89 (dk_at dksX0_init_7 6 rfl rfl)
theorem dX0_init_173 : decode cX0_init 173 = .ok (.invokespecial 338, 3) := dk_183 1 82 (dk_at dksX0_init_7 7 rfl rfl)
theorem dX0_init_176 : decode cX0_init 176 = .ok (.aastore, 1) := dk_83 (dk_at dksX0_init_7 10 rfl rfl)
theorem dX0_init_177 : decode cX0_init 177 = .ok (.dup, 1) := dk_89 (dk_at dksX0_init_7 11 rfl rfl)
theorem dX0_init_178 : decode cX0_init 178 = .ok (.iconst 3, 1) := dk_6 (dk_at dksX0_init_7 12 rfl rfl)
theorem dX0_init_179 : decode cX0_init 179 = .ok (.new 336, 3) := dk_187 1 80 (dk_at dksX0_init_7 13 rfl rfl)
theorem dX0_init_182 : decode cX0_init 182 = .ok (.dup, 1) := dk_89 (dk_at dksX0_init_7 16 rfl rfl)
theorem dX0_init_183 : decode cX0_init 183 = .ok (.invokespecial 338, 3) := dk_183 1 82 (dk_at dksX0_init_7 17 rfl rfl)
theorem dX0_init_186 : decode cX0_init 186 = .ok (.aastore, 1) := dk_83 (dk_at dksX0_init_7 20 rfl rfl)
theorem dX0_init_187 : decode cX0_init 187 = .ok (.putfield 339, 3) := dk_181 1 83 (dk_at dksX0_init_7 21 rfl rfl)
theorem dX0_init_190 : decode cX0_init 190 = .ok (.return_, 1) := dk_177 (dk_at dksX0_init_8 0 rfl rfl)
abbrev cX0_sheet : ByteArray := prog_1_method_62_code
def yX0_sheet : MethodName := ⟨RX0, "sheet", "(III)I"⟩
def dkwX0_sheet_2 : List UInt8 := [180, 1, 83, 27, 50, 29, 181, 1, 94, 4, 172, 58, 4, 16, 242, 172]
abbrev dktX0_sheet_2 : List UInt8 := dkwX0_sheet_2 ++ []
def dkwX0_sheet_1 : List UInt8 := [29, 16, 40, 164, 0, 5, 2, 172, 42, 180, 1, 83, 27, 50, 28, 29, 184, 1, 87, 181, 1, 91, 42]
abbrev dktX0_sheet_1 : List UInt8 := dkwX0_sheet_1 ++ dktX0_sheet_2
def dkwX0_sheet_0 : List UInt8 := [27, 133, 9, 20, 0, 189, 184, 0, 3, 153, 0, 21, 28, 133, 9, 20, 0, 110, 184, 0, 3, 153, 0, 9]
abbrev dktX0_sheet_0 : List UInt8 := dkwX0_sheet_0 ++ dktX0_sheet_1
theorem dksX0_sheet_0 : cX0_sheet.data.toList.drop 0 = dktX0_sheet_0 := by decide +kernel
theorem dksX0_sheet_1 : cX0_sheet.data.toList.drop 24 = dktX0_sheet_1 := dk_seg dksX0_sheet_0 24 rfl rfl
theorem dksX0_sheet_2 : cX0_sheet.data.toList.drop 47 = dktX0_sheet_2 := dk_seg dksX0_sheet_1 23 rfl rfl
theorem dX0_sheet_0 : decode cX0_sheet 0 = .ok (.iload_n 1, 1) := dk_27 (dk_at dksX0_sheet_0 0 rfl rfl)
theorem dX0_sheet_1 : decode cX0_sheet 1 = .ok (.i2l, 1) := dk_133 (dk_at dksX0_sheet_0 1 rfl rfl)
theorem dX0_sheet_2 : decode cX0_sheet 2 = .ok (.lconst 0, 1) := dk_9 (dk_at dksX0_sheet_0 2 rfl rfl)
theorem dX0_sheet_3 : decode cX0_sheet 3 = .ok (.ldc2_w 189, 3) := dk_20 0 189 (dk_at dksX0_sheet_0 3 rfl rfl)
theorem dX0_sheet_6 : decode cX0_sheet 6 = .ok (.invokestatic 3, 3) := dk_184 0 3 (dk_at dksX0_sheet_0 6 rfl rfl)
theorem dX0_sheet_9 : decode cX0_sheet 9 = .ok (.ifCond .eq 21, 3) := dk_153 0 21 (dk_at dksX0_sheet_0 9 rfl rfl)
theorem dX0_sheet_12 : decode cX0_sheet 12 = .ok (.iload_n 2, 1) := dk_28 (dk_at dksX0_sheet_0 12 rfl rfl)
theorem dX0_sheet_13 : decode cX0_sheet 13 = .ok (.i2l, 1) := dk_133 (dk_at dksX0_sheet_0 13 rfl rfl)
theorem dX0_sheet_14 : decode cX0_sheet 14 = .ok (.lconst 0, 1) := dk_9 (dk_at dksX0_sheet_0 14 rfl rfl)
theorem dX0_sheet_15 : decode cX0_sheet 15 = .ok (.ldc2_w 110, 3) := dk_20 0 110 (dk_at dksX0_sheet_0 15 rfl rfl)
theorem dX0_sheet_18 : decode cX0_sheet 18 = .ok (.invokestatic 3, 3) := dk_184 0 3 (dk_at dksX0_sheet_0 18 rfl rfl)
theorem dX0_sheet_21 : decode cX0_sheet 21 = .ok (.ifCond .eq 9, 3) := dk_153 0 9 (dk_at dksX0_sheet_0 21 rfl rfl)
theorem dX0_sheet_24 : decode cX0_sheet 24 = .ok (.iload_n 3, 1) := dk_29 (dk_at dksX0_sheet_1 0 rfl rfl)
theorem dX0_sheet_25 : decode cX0_sheet 25 = .ok (.bipush 40, 2) := dk_16 40 (dk_at dksX0_sheet_1 1 rfl rfl)
theorem dX0_sheet_27 : decode cX0_sheet 27 = .ok (.if_icmp .le 5, 3) := dk_164 0 5 (dk_at dksX0_sheet_1 3 rfl rfl)
theorem dX0_sheet_30 : decode cX0_sheet 30 = .ok (.iconst (-1), 1) := dk_2 (dk_at dksX0_sheet_1 6 rfl rfl)
theorem dX0_sheet_31 : decode cX0_sheet 31 = .ok (.ireturn, 1) := dk_172 (dk_at dksX0_sheet_1 7 rfl rfl)
theorem dX0_sheet_32 : decode cX0_sheet 32 = .ok (.aload_n 0, 1) := dk_42 (dk_at dksX0_sheet_1 8 rfl rfl)
theorem dX0_sheet_33 : decode cX0_sheet 33 = .ok (.getfield 339, 3) := dk_180 1 83 (dk_at dksX0_sheet_1 9 rfl rfl)
theorem dX0_sheet_36 : decode cX0_sheet 36 = .ok (.iload_n 1, 1) := dk_27 (dk_at dksX0_sheet_1 12 rfl rfl)
theorem dX0_sheet_37 : decode cX0_sheet 37 = .ok (.aaload, 1) := dk_50 (dk_at dksX0_sheet_1 13 rfl rfl)
theorem dX0_sheet_38 : decode cX0_sheet 38 = .ok (.iload_n 2, 1) := dk_28 (dk_at dksX0_sheet_1 14 rfl rfl)
theorem dX0_sheet_39 : decode cX0_sheet 39 = .ok (.iload_n 3, 1) := dk_29 (dk_at dksX0_sheet_1 15 rfl rfl)
theorem dX0_sheet_40 : decode cX0_sheet 40 = .ok (.invokestatic 343, 3) := dk_184 1 87 (dk_at dksX0_sheet_1 16 rfl rfl)
theorem dX0_sheet_43 : decode cX0_sheet 43 = .ok (.putfield 347, 3) := dk_181 1 91 (dk_at dksX0_sheet_1 19 rfl rfl)
theorem dX0_sheet_46 : decode cX0_sheet 46 = .ok (.aload_n 0, 1) := dk_42 (dk_at dksX0_sheet_1 22 rfl rfl)
theorem dX0_sheet_47 : decode cX0_sheet 47 = .ok (.getfield 339, 3) := dk_180 1 83 (dk_at dksX0_sheet_2 0 rfl rfl)
theorem dX0_sheet_50 : decode cX0_sheet 50 = .ok (.iload_n 1, 1) := dk_27 (dk_at dksX0_sheet_2 3 rfl rfl)
theorem dX0_sheet_51 : decode cX0_sheet 51 = .ok (.aaload, 1) := dk_50 (dk_at dksX0_sheet_2 4 rfl rfl)
theorem dX0_sheet_52 : decode cX0_sheet 52 = .ok (.iload_n 3, 1) := dk_29 (dk_at dksX0_sheet_2 5 rfl rfl)
theorem dX0_sheet_53 : decode cX0_sheet 53 = .ok (.putfield 350, 3) := dk_181 1 94 (dk_at dksX0_sheet_2 6 rfl rfl)
theorem dX0_sheet_56 : decode cX0_sheet 56 = .ok (.iconst 1, 1) := dk_4 (dk_at dksX0_sheet_2 9 rfl rfl)
theorem dX0_sheet_57 : decode cX0_sheet 57 = .ok (.ireturn, 1) := dk_172 (dk_at dksX0_sheet_2 10 rfl rfl)
theorem dX0_sheet_58 : decode cX0_sheet 58 = .ok (.astore 4, 2) := dk_58 4 (dk_at dksX0_sheet_2 11 rfl rfl)
theorem dX0_sheet_60 : decode cX0_sheet 60 = .ok (.bipush (-14), 2) := dk_16 242 (dk_at dksX0_sheet_2 13 rfl rfl)
theorem dX0_sheet_62 : decode cX0_sheet 62 = .ok (.ireturn, 1) := dk_172 (dk_at dksX0_sheet_2 15 rfl rfl)
abbrev cX0_newRow : ByteArray := prog_1_method_61_code
def yX0_newRow : MethodName := ⟨RX0, "newRow", "(II)Ljava/lang/Object;"⟩
def dkwX0_newRow_2 : List UInt8 := [27, 188, 8, 176, 27, 188, 9, 176, 27, 188, 10, 176]
abbrev dktX0_newRow_2 : List UInt8 := dkwX0_newRow_2 ++ []
def dkwX0_newRow_1 : List UInt8 := [171, 0, 0, 0, 0, 0, 35, 0, 0, 0, 2, 0, 0, 0, 0, 0, 0, 0, 27, 0, 0, 0, 1, 0, 0, 0, 31]
abbrev dktX0_newRow_1 : List UInt8 := dkwX0_newRow_1 ++ dktX0_newRow_2
def dkwX0_newRow_0 : List UInt8 := [26]
abbrev dktX0_newRow_0 : List UInt8 := dkwX0_newRow_0 ++ dktX0_newRow_1
theorem dksX0_newRow_0 : cX0_newRow.data.toList.drop 0 = dktX0_newRow_0 := by decide +kernel
theorem dksX0_newRow_1 : cX0_newRow.data.toList.drop 1 = dktX0_newRow_1 := dk_seg dksX0_newRow_0 1 rfl rfl
theorem dksX0_newRow_2 : cX0_newRow.data.toList.drop 28 = dktX0_newRow_2 := dk_seg dksX0_newRow_1 27 rfl rfl
theorem dX0_newRow_0 : decode cX0_newRow 0 = .ok (.iload_n 0, 1) := dk_26 (dk_at dksX0_newRow_0 0 rfl rfl)
theorem dX0_newRow_1 : decode cX0_newRow 1 = .ok (.lookupswitch 35 #[(0, 27), (1, 31)], 27) := by decide +kernel
theorem dX0_newRow_28 : decode cX0_newRow 28 = .ok (.iload_n 1, 1) := dk_27 (dk_at dksX0_newRow_2 0 rfl rfl)
theorem dX0_newRow_29 : decode cX0_newRow 29 = .ok (.newarray .byte, 2) := dk_188_8 (dk_at dksX0_newRow_2 1 rfl rfl)
theorem dX0_newRow_31 : decode cX0_newRow 31 = .ok (.areturn, 1) := dk_176 (dk_at dksX0_newRow_2 3 rfl rfl)
theorem dX0_newRow_32 : decode cX0_newRow 32 = .ok (.iload_n 1, 1) := dk_27 (dk_at dksX0_newRow_2 4 rfl rfl)
theorem dX0_newRow_33 : decode cX0_newRow 33 = .ok (.newarray .short, 2) := dk_188_9 (dk_at dksX0_newRow_2 5 rfl rfl)
theorem dX0_newRow_35 : decode cX0_newRow 35 = .ok (.areturn, 1) := dk_176 (dk_at dksX0_newRow_2 7 rfl rfl)
theorem dX0_newRow_36 : decode cX0_newRow 36 = .ok (.iload_n 1, 1) := dk_27 (dk_at dksX0_newRow_2 8 rfl rfl)
theorem dX0_newRow_37 : decode cX0_newRow 37 = .ok (.newarray .int, 2) := dk_188_10 (dk_at dksX0_newRow_2 9 rfl rfl)
theorem dX0_newRow_39 : decode cX0_newRow 39 = .ok (.areturn, 1) := dk_176 (dk_at dksX0_newRow_2 11 rfl rfl)
abbrev cX0_lay : ByteArray := prog_1_method_63_code
def yX0_lay : MethodName := ⟨RX0, "lay", "(III)I"⟩
def dkwX0_lay_3 : List UInt8 := [29, 79, 4, 172, 58, 5, 16, 245, 172, 58, 5, 16, 244, 172]
abbrev dktX0_lay_3 : List UInt8 := dkwX0_lay_3 ++ []
def dkwX0_lay_2 : List UInt8 := [193, 1, 100, 153, 0, 15, 25, 4, 192, 1, 100, 28, 29, 147, 86, 167, 0, 11, 25, 4, 192, 1, 102, 28]
abbrev dktX0_lay_2 : List UInt8 := dkwX0_lay_2 ++ dktX0_lay_3
def dkwX0_lay_1 : List UInt8 := [58, 4, 25, 4, 193, 1, 99, 153, 0, 15, 25, 4, 192, 1, 99, 28, 29, 145, 84, 167, 0, 31, 25, 4]
abbrev dktX0_lay_1 : List UInt8 := dkwX0_lay_1 ++ dktX0_lay_2
def dkwX0_lay_0 : List UInt8 := [27, 133, 9, 20, 0, 189, 184, 0, 3, 154, 0, 5, 2, 172, 42, 180, 1, 83, 27, 50, 180, 1, 91]
abbrev dktX0_lay_0 : List UInt8 := dkwX0_lay_0 ++ dktX0_lay_1
theorem dksX0_lay_0 : cX0_lay.data.toList.drop 0 = dktX0_lay_0 := by decide +kernel
theorem dksX0_lay_1 : cX0_lay.data.toList.drop 23 = dktX0_lay_1 := dk_seg dksX0_lay_0 23 rfl rfl
theorem dksX0_lay_2 : cX0_lay.data.toList.drop 47 = dktX0_lay_2 := dk_seg dksX0_lay_1 24 rfl rfl
theorem dksX0_lay_3 : cX0_lay.data.toList.drop 71 = dktX0_lay_3 := dk_seg dksX0_lay_2 24 rfl rfl
theorem dX0_lay_0 : decode cX0_lay 0 = .ok (.iload_n 1, 1) := dk_27 (dk_at dksX0_lay_0 0 rfl rfl)
theorem dX0_lay_1 : decode cX0_lay 1 = .ok (.i2l, 1) := dk_133 (dk_at dksX0_lay_0 1 rfl rfl)
theorem dX0_lay_2 : decode cX0_lay 2 = .ok (.lconst 0, 1) := dk_9 (dk_at dksX0_lay_0 2 rfl rfl)
theorem dX0_lay_3 : decode cX0_lay 3 = .ok (.ldc2_w 189, 3) := dk_20 0 189 (dk_at dksX0_lay_0 3 rfl rfl)
theorem dX0_lay_6 : decode cX0_lay 6 = .ok (.invokestatic 3, 3) := dk_184 0 3 (dk_at dksX0_lay_0 6 rfl rfl)
theorem dX0_lay_9 : decode cX0_lay 9 = .ok (.ifCond .ne 5, 3) := dk_154 0 5 (dk_at dksX0_lay_0 9 rfl rfl)
theorem dX0_lay_12 : decode cX0_lay 12 = .ok (.iconst (-1), 1) := dk_2 (dk_at dksX0_lay_0 12 rfl rfl)
theorem dX0_lay_13 : decode cX0_lay 13 = .ok (.ireturn, 1) := dk_172 (dk_at dksX0_lay_0 13 rfl rfl)
theorem dX0_lay_14 : decode cX0_lay 14 = .ok (.aload_n 0, 1) := dk_42 (dk_at dksX0_lay_0 14 rfl rfl)
theorem dX0_lay_15 : decode cX0_lay 15 = .ok (.getfield 339, 3) := dk_180 1 83 (dk_at dksX0_lay_0 15 rfl rfl)
theorem dX0_lay_18 : decode cX0_lay 18 = .ok (.iload_n 1, 1) := dk_27 (dk_at dksX0_lay_0 18 rfl rfl)
theorem dX0_lay_19 : decode cX0_lay 19 = .ok (.aaload, 1) := dk_50 (dk_at dksX0_lay_0 19 rfl rfl)
theorem dX0_lay_20 : decode cX0_lay 20 = .ok (.getfield 347, 3) := dk_180 1 91 (dk_at dksX0_lay_0 20 rfl rfl)
theorem dX0_lay_23 : decode cX0_lay 23 = .ok (.astore 4, 2) := dk_58 4 (dk_at dksX0_lay_1 0 rfl rfl)
theorem dX0_lay_25 : decode cX0_lay 25 = .ok (.aload 4, 2) := dk_25 4 (dk_at dksX0_lay_1 2 rfl rfl)
theorem dX0_lay_27 : decode cX0_lay 27 = .ok (.instanceof 355, 3) := dk_193 1 99 (dk_at dksX0_lay_1 4 rfl rfl)
theorem dX0_lay_30 : decode cX0_lay 30 = .ok (.ifCond .eq 15, 3) := dk_153 0 15 (dk_at dksX0_lay_1 7 rfl rfl)
theorem dX0_lay_33 : decode cX0_lay 33 = .ok (.aload 4, 2) := dk_25 4 (dk_at dksX0_lay_1 10 rfl rfl)
theorem dX0_lay_35 : decode cX0_lay 35 = .ok (.checkcast 355, 3) := dk_192 1 99 (dk_at dksX0_lay_1 12 rfl rfl)
theorem dX0_lay_38 : decode cX0_lay 38 = .ok (.iload_n 2, 1) := dk_28 (dk_at dksX0_lay_1 15 rfl rfl)
theorem dX0_lay_39 : decode cX0_lay 39 = .ok (.iload_n 3, 1) := dk_29 (dk_at dksX0_lay_1 16 rfl rfl)
theorem dX0_lay_40 : decode cX0_lay 40 = .ok (.i2b, 1) := dk_145 (dk_at dksX0_lay_1 17 rfl rfl)
theorem dX0_lay_41 : decode cX0_lay 41 = .ok (.bastore, 1) := dk_84 (dk_at dksX0_lay_1 18 rfl rfl)
theorem dX0_lay_42 : decode cX0_lay 42 = .ok (.goto 31, 3) := dk_167 0 31 (dk_at dksX0_lay_1 19 rfl rfl)
theorem dX0_lay_45 : decode cX0_lay 45 = .ok (.aload 4, 2) := dk_25 4 (dk_at dksX0_lay_1 22 rfl rfl)
theorem dX0_lay_47 : decode cX0_lay 47 = .ok (.instanceof 356, 3) := dk_193 1 100 (dk_at dksX0_lay_2 0 rfl rfl)
theorem dX0_lay_50 : decode cX0_lay 50 = .ok (.ifCond .eq 15, 3) := dk_153 0 15 (dk_at dksX0_lay_2 3 rfl rfl)
theorem dX0_lay_53 : decode cX0_lay 53 = .ok (.aload 4, 2) := dk_25 4 (dk_at dksX0_lay_2 6 rfl rfl)
theorem dX0_lay_55 : decode cX0_lay 55 = .ok (.checkcast 356, 3) := dk_192 1 100 (dk_at dksX0_lay_2 8 rfl rfl)
theorem dX0_lay_58 : decode cX0_lay 58 = .ok (.iload_n 2, 1) := dk_28 (dk_at dksX0_lay_2 11 rfl rfl)
theorem dX0_lay_59 : decode cX0_lay 59 = .ok (.iload_n 3, 1) := dk_29 (dk_at dksX0_lay_2 12 rfl rfl)
theorem dX0_lay_60 : decode cX0_lay 60 = .ok (.i2s, 1) := dk_147 (dk_at dksX0_lay_2 13 rfl rfl)
theorem dX0_lay_61 : decode cX0_lay 61 = .ok (.sastore, 1) := dk_86 (dk_at dksX0_lay_2 14 rfl rfl)
theorem dX0_lay_62 : decode cX0_lay 62 = .ok (.goto 11, 3) := dk_167 0 11 (dk_at dksX0_lay_2 15 rfl rfl)
theorem dX0_lay_65 : decode cX0_lay 65 = .ok (.aload 4, 2) := dk_25 4 (dk_at dksX0_lay_2 18 rfl rfl)
theorem dX0_lay_67 : decode cX0_lay 67 = .ok (.checkcast 358, 3) := dk_192 1 102 (dk_at dksX0_lay_2 20 rfl rfl)
theorem dX0_lay_70 : decode cX0_lay 70 = .ok (.iload_n 2, 1) := dk_28 (dk_at dksX0_lay_2 23 rfl rfl)
theorem dX0_lay_71 : decode cX0_lay 71 = .ok (.iload_n 3, 1) := dk_29 (dk_at dksX0_lay_3 0 rfl rfl)
theorem dX0_lay_72 : decode cX0_lay 72 = .ok (.iastore, 1) := dk_79 (dk_at dksX0_lay_3 1 rfl rfl)
theorem dX0_lay_73 : decode cX0_lay 73 = .ok (.iconst 1, 1) := dk_4 (dk_at dksX0_lay_3 2 rfl rfl)
theorem dX0_lay_74 : decode cX0_lay 74 = .ok (.ireturn, 1) := dk_172 (dk_at dksX0_lay_3 3 rfl rfl)
theorem dX0_lay_75 : decode cX0_lay 75 = .ok (.astore 5, 2) := dk_58 5 (dk_at dksX0_lay_3 4 rfl rfl)
theorem dX0_lay_77 : decode cX0_lay 77 = .ok (.bipush (-11), 2) := dk_16 245 (dk_at dksX0_lay_3 6 rfl rfl)
theorem dX0_lay_79 : decode cX0_lay 79 = .ok (.ireturn, 1) := dk_172 (dk_at dksX0_lay_3 8 rfl rfl)
theorem dX0_lay_80 : decode cX0_lay 80 = .ok (.astore 5, 2) := dk_58 5 (dk_at dksX0_lay_3 9 rfl rfl)
theorem dX0_lay_82 : decode cX0_lay 82 = .ok (.bipush (-12), 2) := dk_16 244 (dk_at dksX0_lay_3 11 rfl rfl)
theorem dX0_lay_84 : decode cX0_lay 84 = .ok (.ireturn, 1) := dk_172 (dk_at dksX0_lay_3 13 rfl rfl)
abbrev cX0_read : ByteArray := prog_1_method_66_code
def yX0_read : MethodName := ⟨RX0, "read", "(IIII)I"⟩
def dkwX0_read_4 : List UInt8 := [21, 5, 181, 1, 125, 42, 180, 1, 107, 172]
abbrev dktX0_read_4 : List UInt8 := dkwX0_read_4 ++ []
def dkwX0_read_3 : List UInt8 := [180, 1, 110, 153, 0, 19, 42, 180, 0, 33, 42, 180, 1, 77, 182, 0, 40, 42, 180, 1, 110, 172, 42]
abbrev dktX0_read_3 : List UInt8 := dkwX0_read_3 ++ dktX0_read_4
def dkwX0_read_2 : List UInt8 := [182, 0, 40, 42, 42, 180, 1, 83, 27, 50, 180, 1, 91, 28, 29, 21, 4, 182, 1, 121, 54, 5, 42]
abbrev dktX0_read_2 : List UInt8 := dkwX0_read_2 ++ dktX0_read_3
def dkwX0_read_1 : List UInt8 := [21, 4, 133, 9, 20, 1, 119, 184, 0, 3, 154, 0, 5, 2, 172, 42, 180, 1, 77, 42, 180, 0, 33]
abbrev dktX0_read_1 : List UInt8 := dkwX0_read_1 ++ dktX0_read_2
def dkwX0_read_0 : List UInt8 := [27, 133, 9, 20, 0, 189, 184, 0, 3, 153, 0, 28, 28, 133, 9, 20, 0, 110, 184, 0, 3, 153, 0, 16]
abbrev dktX0_read_0 : List UInt8 := dkwX0_read_0 ++ dktX0_read_1
theorem dksX0_read_0 : cX0_read.data.toList.drop 0 = dktX0_read_0 := by decide +kernel
theorem dksX0_read_1 : cX0_read.data.toList.drop 24 = dktX0_read_1 := dk_seg dksX0_read_0 24 rfl rfl
theorem dksX0_read_2 : cX0_read.data.toList.drop 47 = dktX0_read_2 := dk_seg dksX0_read_1 23 rfl rfl
theorem dksX0_read_3 : cX0_read.data.toList.drop 70 = dktX0_read_3 := dk_seg dksX0_read_2 23 rfl rfl
theorem dksX0_read_4 : cX0_read.data.toList.drop 93 = dktX0_read_4 := dk_seg dksX0_read_3 23 rfl rfl
theorem dX0_read_0 : decode cX0_read 0 = .ok (.iload_n 1, 1) := dk_27 (dk_at dksX0_read_0 0 rfl rfl)
theorem dX0_read_1 : decode cX0_read 1 = .ok (.i2l, 1) := dk_133 (dk_at dksX0_read_0 1 rfl rfl)
theorem dX0_read_2 : decode cX0_read 2 = .ok (.lconst 0, 1) := dk_9 (dk_at dksX0_read_0 2 rfl rfl)
theorem dX0_read_3 : decode cX0_read 3 = .ok (.ldc2_w 189, 3) := dk_20 0 189 (dk_at dksX0_read_0 3 rfl rfl)
theorem dX0_read_6 : decode cX0_read 6 = .ok (.invokestatic 3, 3) := dk_184 0 3 (dk_at dksX0_read_0 6 rfl rfl)
theorem dX0_read_9 : decode cX0_read 9 = .ok (.ifCond .eq 28, 3) := dk_153 0 28 (dk_at dksX0_read_0 9 rfl rfl)
theorem dX0_read_12 : decode cX0_read 12 = .ok (.iload_n 2, 1) := dk_28 (dk_at dksX0_read_0 12 rfl rfl)
theorem dX0_read_13 : decode cX0_read 13 = .ok (.i2l, 1) := dk_133 (dk_at dksX0_read_0 13 rfl rfl)
theorem dX0_read_14 : decode cX0_read 14 = .ok (.lconst 0, 1) := dk_9 (dk_at dksX0_read_0 14 rfl rfl)
theorem dX0_read_15 : decode cX0_read 15 = .ok (.ldc2_w 110, 3) := dk_20 0 110 (dk_at dksX0_read_0 15 rfl rfl)
theorem dX0_read_18 : decode cX0_read 18 = .ok (.invokestatic 3, 3) := dk_184 0 3 (dk_at dksX0_read_0 18 rfl rfl)
theorem dX0_read_21 : decode cX0_read 21 = .ok (.ifCond .eq 16, 3) := dk_153 0 16 (dk_at dksX0_read_0 21 rfl rfl)
theorem dX0_read_24 : decode cX0_read 24 = .ok (.iload 4, 2) := dk_21 4 (dk_at dksX0_read_1 0 rfl rfl)
theorem dX0_read_26 : decode cX0_read 26 = .ok (.i2l, 1) := dk_133 (dk_at dksX0_read_1 2 rfl rfl)
theorem dX0_read_27 : decode cX0_read 27 = .ok (.lconst 0, 1) := dk_9 (dk_at dksX0_read_1 3 rfl rfl)
theorem dX0_read_28 : decode cX0_read 28 = .ok (.ldc2_w 375, 3) := dk_20 1 119 (dk_at dksX0_read_1 4 rfl rfl)
theorem dX0_read_31 : decode cX0_read 31 = .ok (.invokestatic 3, 3) := dk_184 0 3 (dk_at dksX0_read_1 7 rfl rfl)
theorem dX0_read_34 : decode cX0_read 34 = .ok (.ifCond .ne 5, 3) := dk_154 0 5 (dk_at dksX0_read_1 10 rfl rfl)
theorem dX0_read_37 : decode cX0_read 37 = .ok (.iconst (-1), 1) := dk_2 (dk_at dksX0_read_1 13 rfl rfl)
theorem dX0_read_38 : decode cX0_read 38 = .ok (.ireturn, 1) := dk_172 (dk_at dksX0_read_1 14 rfl rfl)
theorem dX0_read_39 : decode cX0_read 39 = .ok (.aload_n 0, 1) := dk_42 (dk_at dksX0_read_1 15 rfl rfl)
theorem dX0_read_40 : decode cX0_read 40 = .ok (.getfield 333, 3) := dk_180 1 77 (dk_at dksX0_read_1 16 rfl rfl)
theorem dX0_read_43 : decode cX0_read 43 = .ok (.aload_n 0, 1) := dk_42 (dk_at dksX0_read_1 19 rfl rfl)
theorem dX0_read_44 : decode cX0_read 44 = .ok (.getfield 33, 3) := dk_180 0 33 (dk_at dksX0_read_1 20 rfl rfl)
theorem dX0_read_47 : decode cX0_read 47 = .ok (.invokevirtual 40, 3) := dk_182 0 40 (dk_at dksX0_read_2 0 rfl rfl)
theorem dX0_read_50 : decode cX0_read 50 = .ok (.aload_n 0, 1) := dk_42 (dk_at dksX0_read_2 3 rfl rfl)
theorem dX0_read_51 : decode cX0_read 51 = .ok (.aload_n 0, 1) := dk_42 (dk_at dksX0_read_2 4 rfl rfl)
theorem dX0_read_52 : decode cX0_read 52 = .ok (.getfield 339, 3) := dk_180 1 83 (dk_at dksX0_read_2 5 rfl rfl)
theorem dX0_read_55 : decode cX0_read 55 = .ok (.iload_n 1, 1) := dk_27 (dk_at dksX0_read_2 8 rfl rfl)
theorem dX0_read_56 : decode cX0_read 56 = .ok (.aaload, 1) := dk_50 (dk_at dksX0_read_2 9 rfl rfl)
theorem dX0_read_57 : decode cX0_read 57 = .ok (.getfield 347, 3) := dk_180 1 91 (dk_at dksX0_read_2 10 rfl rfl)
theorem dX0_read_60 : decode cX0_read 60 = .ok (.iload_n 2, 1) := dk_28 (dk_at dksX0_read_2 13 rfl rfl)
theorem dX0_read_61 : decode cX0_read 61 = .ok (.iload_n 3, 1) := dk_29 (dk_at dksX0_read_2 14 rfl rfl)
theorem dX0_read_62 : decode cX0_read 62 = .ok (.iload 4, 2) := dk_21 4 (dk_at dksX0_read_2 15 rfl rfl)
theorem dX0_read_64 : decode cX0_read 64 = .ok (.invokevirtual 377, 3) := dk_182 1 121 (dk_at dksX0_read_2 17 rfl rfl)
theorem dX0_read_67 : decode cX0_read 67 = .ok (.istore 5, 2) := dk_54 5 (dk_at dksX0_read_2 20 rfl rfl)
theorem dX0_read_69 : decode cX0_read 69 = .ok (.aload_n 0, 1) := dk_42 (dk_at dksX0_read_2 22 rfl rfl)
theorem dX0_read_70 : decode cX0_read 70 = .ok (.getfield 366, 3) := dk_180 1 110 (dk_at dksX0_read_3 0 rfl rfl)
theorem dX0_read_73 : decode cX0_read 73 = .ok (.ifCond .eq 19, 3) := dk_153 0 19 (dk_at dksX0_read_3 3 rfl rfl)
theorem dX0_read_76 : decode cX0_read 76 = .ok (.aload_n 0, 1) := dk_42 (dk_at dksX0_read_3 6 rfl rfl)
theorem dX0_read_77 : decode cX0_read 77 = .ok (.getfield 33, 3) := dk_180 0 33 (dk_at dksX0_read_3 7 rfl rfl)
theorem dX0_read_80 : decode cX0_read 80 = .ok (.aload_n 0, 1) := dk_42 (dk_at dksX0_read_3 10 rfl rfl)
theorem dX0_read_81 : decode cX0_read 81 = .ok (.getfield 333, 3) := dk_180 1 77 (dk_at dksX0_read_3 11 rfl rfl)
theorem dX0_read_84 : decode cX0_read 84 = .ok (.invokevirtual 40, 3) := dk_182 0 40 (dk_at dksX0_read_3 14 rfl rfl)
theorem dX0_read_87 : decode cX0_read 87 = .ok (.aload_n 0, 1) := dk_42 (dk_at dksX0_read_3 17 rfl rfl)
theorem dX0_read_88 : decode cX0_read 88 = .ok (.getfield 366, 3) := dk_180 1 110 (dk_at dksX0_read_3 18 rfl rfl)
theorem dX0_read_91 : decode cX0_read 91 = .ok (.ireturn, 1) := dk_172 (dk_at dksX0_read_3 21 rfl rfl)
theorem dX0_read_92 : decode cX0_read 92 = .ok (.aload_n 0, 1) := dk_42 (dk_at dksX0_read_3 22 rfl rfl)
theorem dX0_read_93 : decode cX0_read 93 = .ok (.iload 5, 2) := dk_21 5 (dk_at dksX0_read_4 0 rfl rfl)
theorem dX0_read_95 : decode cX0_read 95 = .ok (.putfield 381, 3) := dk_181 1 125 (dk_at dksX0_read_4 2 rfl rfl)
theorem dX0_read_98 : decode cX0_read 98 = .ok (.aload_n 0, 1) := dk_42 (dk_at dksX0_read_4 5 rfl rfl)
theorem dX0_read_99 : decode cX0_read 99 = .ok (.getfield 363, 3) := dk_180 1 107 (dk_at dksX0_read_4 6 rfl rfl)
theorem dX0_read_102 : decode cX0_read 102 = .ok (.ireturn, 1) := dk_172 (dk_at dksX0_read_4 9 rfl rfl)
abbrev cX0_takesIn : ByteArray := prog_1_method_65_code
def yX0_takesIn : MethodName := ⟨RX0, "takesIn", "(Ljava/lang/Object;III)I"⟩
def dkwX0_takesIn_5 : List UInt8 := [172]
abbrev dktX0_takesIn_5 : List UInt8 := dkwX0_takesIn_5 ++ []
def dkwX0_takesIn_4 : List UInt8 := [167, 0, 4, 3, 96, 181, 1, 107, 167, 255, 163, 3, 172, 58, 5, 4, 172, 58, 5, 6, 172, 58, 5, 5]
abbrev dktX0_takesIn_4 : List UInt8 := dkwX0_takesIn_4 ++ dktX0_takesIn_5
def dkwX0_takesIn_3 : List UInt8 := [180, 1, 107, 100, 167, 0, 4, 3, 181, 1, 110, 42, 89, 180, 1, 107, 42, 180, 1, 110, 154, 0, 7, 4]
abbrev dktX0_takesIn_3 : List UInt8 := dkwX0_takesIn_3 ++ dktX0_takesIn_4
def dkwX0_takesIn_2 : List UInt8 := [21, 5, 4, 96, 184, 1, 113, 54, 7, 42, 42, 21, 6, 21, 7, 182, 0, 170, 156, 0, 13, 16, 236, 42]
abbrev dktX0_takesIn_2 : List UInt8 := dkwX0_takesIn_2 ++ dktX0_takesIn_3
def dkwX0_takesIn_1 : List UInt8 := [154, 0, 83, 29, 5, 42, 180, 1, 107, 104, 96, 54, 5, 43, 28, 21, 5, 184, 1, 113, 54, 6, 43, 28]
abbrev dktX0_takesIn_1 : List UInt8 := dkwX0_takesIn_1 ++ dktX0_takesIn_2
def dkwX0_takesIn_0 : List UInt8 := [42, 3, 181, 1, 107, 42, 3, 181, 1, 110, 42, 180, 1, 107, 21, 4, 162, 0, 90, 42, 180, 1, 110]
abbrev dktX0_takesIn_0 : List UInt8 := dkwX0_takesIn_0 ++ dktX0_takesIn_1
theorem dksX0_takesIn_0 : cX0_takesIn.data.toList.drop 0 = dktX0_takesIn_0 := by decide +kernel
theorem dksX0_takesIn_1 : cX0_takesIn.data.toList.drop 23 = dktX0_takesIn_1 := dk_seg dksX0_takesIn_0 23 rfl rfl
theorem dksX0_takesIn_2 : cX0_takesIn.data.toList.drop 47 = dktX0_takesIn_2 := dk_seg dksX0_takesIn_1 24 rfl rfl
theorem dksX0_takesIn_3 : cX0_takesIn.data.toList.drop 71 = dktX0_takesIn_3 := dk_seg dksX0_takesIn_2 24 rfl rfl
theorem dksX0_takesIn_4 : cX0_takesIn.data.toList.drop 95 = dktX0_takesIn_4 := dk_seg dksX0_takesIn_3 24 rfl rfl
theorem dksX0_takesIn_5 : cX0_takesIn.data.toList.drop 119 = dktX0_takesIn_5 := dk_seg dksX0_takesIn_4 24 rfl rfl
theorem dX0_takesIn_0 : decode cX0_takesIn 0 = .ok (.aload_n 0, 1) := dk_42 (dk_at dksX0_takesIn_0 0 rfl rfl)
theorem dX0_takesIn_1 : decode cX0_takesIn 1 = .ok (.iconst 0, 1) := dk_3 (dk_at dksX0_takesIn_0 1 rfl rfl)
theorem dX0_takesIn_2 : decode cX0_takesIn 2 = .ok (.putfield 363, 3) := dk_181 1 107 (dk_at dksX0_takesIn_0 2 rfl rfl)
theorem dX0_takesIn_5 : decode cX0_takesIn 5 = .ok (.aload_n 0, 1) := dk_42 (dk_at dksX0_takesIn_0 5 rfl rfl)
theorem dX0_takesIn_6 : decode cX0_takesIn 6 = .ok (.iconst 0, 1) := dk_3 (dk_at dksX0_takesIn_0 6 rfl rfl)
theorem dX0_takesIn_7 : decode cX0_takesIn 7 = .ok (.putfield 366, 3) := dk_181 1 110 (dk_at dksX0_takesIn_0 7 rfl rfl)
theorem dX0_takesIn_10 : decode cX0_takesIn 10 = .ok (.aload_n 0, 1) := dk_42 (dk_at dksX0_takesIn_0 10 rfl rfl)
theorem dX0_takesIn_11 : decode cX0_takesIn 11 = .ok (.getfield 363, 3) := dk_180 1 107 (dk_at dksX0_takesIn_0 11 rfl rfl)
theorem dX0_takesIn_14 : decode cX0_takesIn 14 = .ok (.iload 4, 2) := dk_21 4 (dk_at dksX0_takesIn_0 14 rfl rfl)
theorem dX0_takesIn_16 : decode cX0_takesIn 16 = .ok (.if_icmp .ge 90, 3) := dk_162 0 90 (dk_at dksX0_takesIn_0 16 rfl rfl)
theorem dX0_takesIn_19 : decode cX0_takesIn 19 = .ok (.aload_n 0, 1) := dk_42 (dk_at dksX0_takesIn_0 19 rfl rfl)
theorem dX0_takesIn_20 : decode cX0_takesIn 20 = .ok (.getfield 366, 3) := dk_180 1 110 (dk_at dksX0_takesIn_0 20 rfl rfl)
theorem dX0_takesIn_23 : decode cX0_takesIn 23 = .ok (.ifCond .ne 83, 3) := dk_154 0 83 (dk_at dksX0_takesIn_1 0 rfl rfl)
theorem dX0_takesIn_26 : decode cX0_takesIn 26 = .ok (.iload_n 3, 1) := dk_29 (dk_at dksX0_takesIn_1 3 rfl rfl)
theorem dX0_takesIn_27 : decode cX0_takesIn 27 = .ok (.iconst 2, 1) := dk_5 (dk_at dksX0_takesIn_1 4 rfl rfl)
theorem dX0_takesIn_28 : decode cX0_takesIn 28 = .ok (.aload_n 0, 1) := dk_42 (dk_at dksX0_takesIn_1 5 rfl rfl)
theorem dX0_takesIn_29 : decode cX0_takesIn 29 = .ok (.getfield 363, 3) := dk_180 1 107 (dk_at dksX0_takesIn_1 6 rfl rfl)
theorem dX0_takesIn_32 : decode cX0_takesIn 32 = .ok (.imul, 1) := dk_104 (dk_at dksX0_takesIn_1 9 rfl rfl)
theorem dX0_takesIn_33 : decode cX0_takesIn 33 = .ok (.iadd, 1) := dk_96 (dk_at dksX0_takesIn_1 10 rfl rfl)
theorem dX0_takesIn_34 : decode cX0_takesIn 34 = .ok (.istore 5, 2) := dk_54 5 (dk_at dksX0_takesIn_1 11 rfl rfl)
theorem dX0_takesIn_36 : decode cX0_takesIn 36 = .ok (.aload_n 1, 1) := dk_43 (dk_at dksX0_takesIn_1 13 rfl rfl)
theorem dX0_takesIn_37 : decode cX0_takesIn 37 = .ok (.iload_n 2, 1) := dk_28 (dk_at dksX0_takesIn_1 14 rfl rfl)
theorem dX0_takesIn_38 : decode cX0_takesIn 38 = .ok (.iload 5, 2) := dk_21 5 (dk_at dksX0_takesIn_1 15 rfl rfl)
theorem dX0_takesIn_40 : decode cX0_takesIn 40 = .ok (.invokestatic 369, 3) := dk_184 1 113 (dk_at dksX0_takesIn_1 17 rfl rfl)
theorem dX0_takesIn_43 : decode cX0_takesIn 43 = .ok (.istore 6, 2) := dk_54 6 (dk_at dksX0_takesIn_1 20 rfl rfl)
theorem dX0_takesIn_45 : decode cX0_takesIn 45 = .ok (.aload_n 1, 1) := dk_43 (dk_at dksX0_takesIn_1 22 rfl rfl)
theorem dX0_takesIn_46 : decode cX0_takesIn 46 = .ok (.iload_n 2, 1) := dk_28 (dk_at dksX0_takesIn_1 23 rfl rfl)
theorem dX0_takesIn_47 : decode cX0_takesIn 47 = .ok (.iload 5, 2) := dk_21 5 (dk_at dksX0_takesIn_2 0 rfl rfl)
theorem dX0_takesIn_49 : decode cX0_takesIn 49 = .ok (.iconst 1, 1) := dk_4 (dk_at dksX0_takesIn_2 2 rfl rfl)
theorem dX0_takesIn_50 : decode cX0_takesIn 50 = .ok (.iadd, 1) := dk_96 (dk_at dksX0_takesIn_2 3 rfl rfl)
theorem dX0_takesIn_51 : decode cX0_takesIn 51 = .ok (.invokestatic 369, 3) := dk_184 1 113 (dk_at dksX0_takesIn_2 4 rfl rfl)
theorem dX0_takesIn_54 : decode cX0_takesIn 54 = .ok (.istore 7, 2) := dk_54 7 (dk_at dksX0_takesIn_2 7 rfl rfl)
theorem dX0_takesIn_56 : decode cX0_takesIn 56 = .ok (.aload_n 0, 1) := dk_42 (dk_at dksX0_takesIn_2 9 rfl rfl)
theorem dX0_takesIn_57 : decode cX0_takesIn 57 = .ok (.aload_n 0, 1) := dk_42 (dk_at dksX0_takesIn_2 10 rfl rfl)
theorem dX0_takesIn_58 : decode cX0_takesIn 58 = .ok (.iload 6, 2) := dk_21 6 (dk_at dksX0_takesIn_2 11 rfl rfl)
theorem dX0_takesIn_60 : decode cX0_takesIn 60 = .ok (.iload 7, 2) := dk_21 7 (dk_at dksX0_takesIn_2 13 rfl rfl)
theorem dX0_takesIn_62 : decode cX0_takesIn 62 = .ok (.invokevirtual 170, 3) := dk_182 0 170 (dk_at dksX0_takesIn_2 15 rfl rfl)
theorem dX0_takesIn_65 : decode cX0_takesIn 65 = .ok (.ifCond .ge 13, 3) := dk_156 0 13 (dk_at dksX0_takesIn_2 18 rfl rfl)
theorem dX0_takesIn_68 : decode cX0_takesIn 68 = .ok (.bipush (-20), 2) := dk_16 236 (dk_at dksX0_takesIn_2 21 rfl rfl)
theorem dX0_takesIn_70 : decode cX0_takesIn 70 = .ok (.aload_n 0, 1) := dk_42 (dk_at dksX0_takesIn_2 23 rfl rfl)
theorem dX0_takesIn_71 : decode cX0_takesIn 71 = .ok (.getfield 363, 3) := dk_180 1 107 (dk_at dksX0_takesIn_3 0 rfl rfl)
theorem dX0_takesIn_74 : decode cX0_takesIn 74 = .ok (.isub, 1) := dk_100 (dk_at dksX0_takesIn_3 3 rfl rfl)
theorem dX0_takesIn_75 : decode cX0_takesIn 75 = .ok (.goto 4, 3) := dk_167 0 4 (dk_at dksX0_takesIn_3 4 rfl rfl)
theorem dX0_takesIn_78 : decode cX0_takesIn 78 = .ok (.iconst 0, 1) := dk_3 (dk_at dksX0_takesIn_3 7 rfl rfl)
theorem dX0_takesIn_79 : decode cX0_takesIn 79 = .ok (.putfield 366, 3) := dk_181 1 110 (dk_at dksX0_takesIn_3 8 rfl rfl)
theorem dX0_takesIn_82 : decode cX0_takesIn 82 = .ok (.aload_n 0, 1) := dk_42 (dk_at dksX0_takesIn_3 11 rfl rfl)
theorem dX0_takesIn_83 : decode cX0_takesIn 83 = .ok (.dup, 1) := dk_89 (dk_at dksX0_takesIn_3 12 rfl rfl)
theorem dX0_takesIn_84 : decode cX0_takesIn 84 = .ok (.getfield 363, 3) := dk_180 1 107 (dk_at dksX0_takesIn_3 13 rfl rfl)
theorem dX0_takesIn_87 : decode cX0_takesIn 87 = .ok (.aload_n 0, 1) := dk_42 (dk_at dksX0_takesIn_3 16 rfl rfl)
theorem dX0_takesIn_88 : decode cX0_takesIn 88 = .ok (.getfield 366, 3) := dk_180 1 110 (dk_at dksX0_takesIn_3 17 rfl rfl)
theorem dX0_takesIn_91 : decode cX0_takesIn 91 = .ok (.ifCond .ne 7, 3) := dk_154 0 7 (dk_at dksX0_takesIn_3 20 rfl rfl)
theorem dX0_takesIn_94 : decode cX0_takesIn 94 = .ok (.iconst 1, 1) := dk_4 (dk_at dksX0_takesIn_3 23 rfl rfl)
theorem dX0_takesIn_95 : decode cX0_takesIn 95 = .ok (.goto 4, 3) := dk_167 0 4 (dk_at dksX0_takesIn_4 0 rfl rfl)
theorem dX0_takesIn_98 : decode cX0_takesIn 98 = .ok (.iconst 0, 1) := dk_3 (dk_at dksX0_takesIn_4 3 rfl rfl)
theorem dX0_takesIn_99 : decode cX0_takesIn 99 = .ok (.iadd, 1) := dk_96 (dk_at dksX0_takesIn_4 4 rfl rfl)
theorem dX0_takesIn_100 : decode cX0_takesIn 100 = .ok (.putfield 363, 3) := dk_181 1 107 (dk_at dksX0_takesIn_4 5 rfl rfl)
theorem dX0_takesIn_103 : decode cX0_takesIn 103 = .ok (.goto (-93), 3) := dk_167 255 163 (dk_at dksX0_takesIn_4 8 rfl rfl)
theorem dX0_takesIn_106 : decode cX0_takesIn 106 = .ok (.iconst 0, 1) := dk_3 (dk_at dksX0_takesIn_4 11 rfl rfl)
theorem dX0_takesIn_107 : decode cX0_takesIn 107 = .ok (.ireturn, 1) := dk_172 (dk_at dksX0_takesIn_4 12 rfl rfl)
theorem dX0_takesIn_108 : decode cX0_takesIn 108 = .ok (.astore 5, 2) := dk_58 5 (dk_at dksX0_takesIn_4 13 rfl rfl)
theorem dX0_takesIn_110 : decode cX0_takesIn 110 = .ok (.iconst 1, 1) := dk_4 (dk_at dksX0_takesIn_4 15 rfl rfl)
theorem dX0_takesIn_111 : decode cX0_takesIn 111 = .ok (.ireturn, 1) := dk_172 (dk_at dksX0_takesIn_4 16 rfl rfl)
theorem dX0_takesIn_112 : decode cX0_takesIn 112 = .ok (.astore 5, 2) := dk_58 5 (dk_at dksX0_takesIn_4 17 rfl rfl)
theorem dX0_takesIn_114 : decode cX0_takesIn 114 = .ok (.iconst 3, 1) := dk_6 (dk_at dksX0_takesIn_4 19 rfl rfl)
theorem dX0_takesIn_115 : decode cX0_takesIn 115 = .ok (.ireturn, 1) := dk_172 (dk_at dksX0_takesIn_4 20 rfl rfl)
theorem dX0_takesIn_116 : decode cX0_takesIn 116 = .ok (.astore 5, 2) := dk_58 5 (dk_at dksX0_takesIn_4 21 rfl rfl)
theorem dX0_takesIn_118 : decode cX0_takesIn 118 = .ok (.iconst 2, 1) := dk_5 (dk_at dksX0_takesIn_4 23 rfl rfl)
theorem dX0_takesIn_119 : decode cX0_takesIn 119 = .ok (.ireturn, 1) := dk_172 (dk_at dksX0_takesIn_5 0 rfl rfl)
abbrev cX0_cell : ByteArray := prog_1_method_64_code
def yX0_cell : MethodName := ⟨RX0, "cell", "(Ljava/lang/Object;II)I"⟩
def dkwX0_cell_1 : List UInt8 := [167, 0, 9, 42, 192, 1, 102, 28, 46, 172]
abbrev dktX0_cell_1 : List UInt8 := dkwX0_cell_1 ++ []
def dkwX0_cell_0 : List UInt8 := [27, 154, 0, 12, 42, 192, 1, 99, 28, 51, 167, 0, 23, 27, 4, 160, 0, 12, 42, 192, 1, 100, 28, 53]
abbrev dktX0_cell_0 : List UInt8 := dkwX0_cell_0 ++ dktX0_cell_1
theorem dksX0_cell_0 : cX0_cell.data.toList.drop 0 = dktX0_cell_0 := by decide +kernel
theorem dksX0_cell_1 : cX0_cell.data.toList.drop 24 = dktX0_cell_1 := dk_seg dksX0_cell_0 24 rfl rfl
theorem dX0_cell_0 : decode cX0_cell 0 = .ok (.iload_n 1, 1) := dk_27 (dk_at dksX0_cell_0 0 rfl rfl)
theorem dX0_cell_1 : decode cX0_cell 1 = .ok (.ifCond .ne 12, 3) := dk_154 0 12 (dk_at dksX0_cell_0 1 rfl rfl)
theorem dX0_cell_4 : decode cX0_cell 4 = .ok (.aload_n 0, 1) := dk_42 (dk_at dksX0_cell_0 4 rfl rfl)
theorem dX0_cell_5 : decode cX0_cell 5 = .ok (.checkcast 355, 3) := dk_192 1 99 (dk_at dksX0_cell_0 5 rfl rfl)
theorem dX0_cell_8 : decode cX0_cell 8 = .ok (.iload_n 2, 1) := dk_28 (dk_at dksX0_cell_0 8 rfl rfl)
theorem dX0_cell_9 : decode cX0_cell 9 = .ok (.baload, 1) := dk_51 (dk_at dksX0_cell_0 9 rfl rfl)
theorem dX0_cell_10 : decode cX0_cell 10 = .ok (.goto 23, 3) := dk_167 0 23 (dk_at dksX0_cell_0 10 rfl rfl)
theorem dX0_cell_13 : decode cX0_cell 13 = .ok (.iload_n 1, 1) := dk_27 (dk_at dksX0_cell_0 13 rfl rfl)
theorem dX0_cell_14 : decode cX0_cell 14 = .ok (.iconst 1, 1) := dk_4 (dk_at dksX0_cell_0 14 rfl rfl)
theorem dX0_cell_15 : decode cX0_cell 15 = .ok (.if_icmp .ne 12, 3) := dk_160 0 12 (dk_at dksX0_cell_0 15 rfl rfl)
theorem dX0_cell_18 : decode cX0_cell 18 = .ok (.aload_n 0, 1) := dk_42 (dk_at dksX0_cell_0 18 rfl rfl)
theorem dX0_cell_19 : decode cX0_cell 19 = .ok (.checkcast 356, 3) := dk_192 1 100 (dk_at dksX0_cell_0 19 rfl rfl)
theorem dX0_cell_22 : decode cX0_cell 22 = .ok (.iload_n 2, 1) := dk_28 (dk_at dksX0_cell_0 22 rfl rfl)
theorem dX0_cell_23 : decode cX0_cell 23 = .ok (.saload, 1) := dk_53 (dk_at dksX0_cell_0 23 rfl rfl)
theorem dX0_cell_24 : decode cX0_cell 24 = .ok (.goto 9, 3) := dk_167 0 9 (dk_at dksX0_cell_1 0 rfl rfl)
theorem dX0_cell_27 : decode cX0_cell 27 = .ok (.aload_n 0, 1) := dk_42 (dk_at dksX0_cell_1 3 rfl rfl)
theorem dX0_cell_28 : decode cX0_cell 28 = .ok (.checkcast 358, 3) := dk_192 1 102 (dk_at dksX0_cell_1 4 rfl rfl)
theorem dX0_cell_31 : decode cX0_cell 31 = .ok (.iload_n 2, 1) := dk_28 (dk_at dksX0_cell_1 7 rfl rfl)
theorem dX0_cell_32 : decode cX0_cell 32 = .ok (.iaload, 1) := dk_46 (dk_at dksX0_cell_1 8 rfl rfl)
theorem dX0_cell_33 : decode cX0_cell 33 = .ok (.ireturn, 1) := dk_172 (dk_at dksX0_cell_1 9 rfl rfl)
abbrev cX0_torn : ByteArray := prog_1_method_67_code
def yX0_torn : MethodName := ⟨RX0, "torn", "()I"⟩
theorem dX0_torn_0 : decode cX0_torn 0 = .ok (.aload_n 0, 1) := by decide +kernel
theorem dX0_torn_1 : decode cX0_torn 1 = .ok (.getfield 381, 3) := by decide +kernel
theorem dX0_torn_4 : decode cX0_torn 4 = .ok (.ireturn, 1) := by decide +kernel
abbrev cX0_count : ByteArray := prog_1_method_68_code
def yX0_count : MethodName := ⟨RX0, "count", "(I)I"⟩
def dkwX0_count_5 : List UInt8 := [180, 1, 91, 199, 0, 8, 16, 252, 167, 0, 12, 42, 180, 1, 83, 3, 50, 180, 1, 94, 172, 2, 172]
abbrev dktX0_count_5 : List UInt8 := dkwX0_count_5 ++ []
def dkwX0_count_4 : List UInt8 := [180, 0, 66, 153, 0, 7, 4, 167, 0, 4, 3, 96, 172, 42, 180, 0, 9, 172, 42, 180, 1, 83, 3, 50]
abbrev dktX0_count_4 : List UInt8 := dkwX0_count_4 ++ dktX0_count_5
def dkwX0_count_3 : List UInt8 := [180, 0, 62, 3, 50, 180, 0, 66, 153, 0, 7, 4, 167, 0, 4, 3, 42, 180, 0, 62, 4, 50]
abbrev dktX0_count_3 : List UInt8 := dkwX0_count_3 ++ dktX0_count_4
def dkwX0_count_2 : List UInt8 := [42, 180, 0, 33, 3, 184, 1, 59, 172, 42, 180, 0, 33, 4, 184, 1, 59, 172, 42, 180, 0, 59, 172, 42]
abbrev dktX0_count_2 : List UInt8 := dkwX0_count_2 ++ dktX0_count_3
def dkwX0_count_1 : List UInt8 := [170, 0, 0, 0, 0, 0, 130, 0, 0, 0, 0, 0, 0, 0, 5, 0, 0, 0, 39, 0, 0, 0, 48, 0, 0, 0, 57, 0, 0, 0, 62, 0, 0, 0, 98, 0, 0, 0, 103]
abbrev dktX0_count_1 : List UInt8 := dkwX0_count_1 ++ dktX0_count_2
def dkwX0_count_0 : List UInt8 := [27]
abbrev dktX0_count_0 : List UInt8 := dkwX0_count_0 ++ dktX0_count_1
theorem dksX0_count_0 : cX0_count.data.toList.drop 0 = dktX0_count_0 := by decide +kernel
theorem dksX0_count_1 : cX0_count.data.toList.drop 1 = dktX0_count_1 := dk_seg dksX0_count_0 1 rfl rfl
theorem dksX0_count_2 : cX0_count.data.toList.drop 40 = dktX0_count_2 := dk_seg dksX0_count_1 39 rfl rfl
theorem dksX0_count_3 : cX0_count.data.toList.drop 64 = dktX0_count_3 := dk_seg dksX0_count_2 24 rfl rfl
theorem dksX0_count_4 : cX0_count.data.toList.drop 86 = dktX0_count_4 := dk_seg dksX0_count_3 22 rfl rfl
theorem dksX0_count_5 : cX0_count.data.toList.drop 110 = dktX0_count_5 := dk_seg dksX0_count_4 24 rfl rfl
theorem dX0_count_0 : decode cX0_count 0 = .ok (.iload_n 1, 1) := dk_27 (dk_at dksX0_count_0 0 rfl rfl)
theorem dX0_count_1 : decode cX0_count 1 = .ok (.tableswitch 130 0 5 #[39, 48, 57, 62, 98, 103], 39) := by decide +kernel
theorem dX0_count_40 : decode cX0_count 40 = .ok (.aload_n 0, 1) := dk_42 (dk_at dksX0_count_2 0 rfl rfl)
theorem dX0_count_41 : decode cX0_count 41 = .ok (.getfield 33, 3) := dk_180 0 33 (dk_at dksX0_count_2 1 rfl rfl)
theorem dX0_count_44 : decode cX0_count 44 = .ok (.iconst 0, 1) := dk_3 (dk_at dksX0_count_2 4 rfl rfl)
theorem dX0_count_45 : decode cX0_count 45 = .ok (.invokestatic 315, 3) := dk_184 1 59 (dk_at dksX0_count_2 5 rfl rfl)
theorem dX0_count_48 : decode cX0_count 48 = .ok (.ireturn, 1) := dk_172 (dk_at dksX0_count_2 8 rfl rfl)
theorem dX0_count_49 : decode cX0_count 49 = .ok (.aload_n 0, 1) := dk_42 (dk_at dksX0_count_2 9 rfl rfl)
theorem dX0_count_50 : decode cX0_count 50 = .ok (.getfield 33, 3) := dk_180 0 33 (dk_at dksX0_count_2 10 rfl rfl)
theorem dX0_count_53 : decode cX0_count 53 = .ok (.iconst 1, 1) := dk_4 (dk_at dksX0_count_2 13 rfl rfl)
theorem dX0_count_54 : decode cX0_count 54 = .ok (.invokestatic 315, 3) := dk_184 1 59 (dk_at dksX0_count_2 14 rfl rfl)
theorem dX0_count_57 : decode cX0_count 57 = .ok (.ireturn, 1) := dk_172 (dk_at dksX0_count_2 17 rfl rfl)
theorem dX0_count_58 : decode cX0_count 58 = .ok (.aload_n 0, 1) := dk_42 (dk_at dksX0_count_2 18 rfl rfl)
theorem dX0_count_59 : decode cX0_count 59 = .ok (.getfield 59, 3) := dk_180 0 59 (dk_at dksX0_count_2 19 rfl rfl)
theorem dX0_count_62 : decode cX0_count 62 = .ok (.ireturn, 1) := dk_172 (dk_at dksX0_count_2 22 rfl rfl)
theorem dX0_count_63 : decode cX0_count 63 = .ok (.aload_n 0, 1) := dk_42 (dk_at dksX0_count_2 23 rfl rfl)
theorem dX0_count_64 : decode cX0_count 64 = .ok (.getfield 62, 3) := dk_180 0 62 (dk_at dksX0_count_3 0 rfl rfl)
theorem dX0_count_67 : decode cX0_count 67 = .ok (.iconst 0, 1) := dk_3 (dk_at dksX0_count_3 3 rfl rfl)
theorem dX0_count_68 : decode cX0_count 68 = .ok (.aaload, 1) := dk_50 (dk_at dksX0_count_3 4 rfl rfl)
theorem dX0_count_69 : decode cX0_count 69 = .ok (.getfield 66, 3) := dk_180 0 66 (dk_at dksX0_count_3 5 rfl rfl)
theorem dX0_count_72 : decode cX0_count 72 = .ok (.ifCond .eq 7, 3) := dk_153 0 7 (dk_at dksX0_count_3 8 rfl rfl)
theorem dX0_count_75 : decode cX0_count 75 = .ok (.iconst 1, 1) := dk_4 (dk_at dksX0_count_3 11 rfl rfl)
theorem dX0_count_76 : decode cX0_count 76 = .ok (.goto 4, 3) := dk_167 0 4 (dk_at dksX0_count_3 12 rfl rfl)
theorem dX0_count_79 : decode cX0_count 79 = .ok (.iconst 0, 1) := dk_3 (dk_at dksX0_count_3 15 rfl rfl)
theorem dX0_count_80 : decode cX0_count 80 = .ok (.aload_n 0, 1) := dk_42 (dk_at dksX0_count_3 16 rfl rfl)
theorem dX0_count_81 : decode cX0_count 81 = .ok (.getfield 62, 3) := dk_180 0 62 (dk_at dksX0_count_3 17 rfl rfl)
theorem dX0_count_84 : decode cX0_count 84 = .ok (.iconst 1, 1) := dk_4 (dk_at dksX0_count_3 20 rfl rfl)
theorem dX0_count_85 : decode cX0_count 85 = .ok (.aaload, 1) := dk_50 (dk_at dksX0_count_3 21 rfl rfl)
theorem dX0_count_86 : decode cX0_count 86 = .ok (.getfield 66, 3) := dk_180 0 66 (dk_at dksX0_count_4 0 rfl rfl)
theorem dX0_count_89 : decode cX0_count 89 = .ok (.ifCond .eq 7, 3) := dk_153 0 7 (dk_at dksX0_count_4 3 rfl rfl)
theorem dX0_count_92 : decode cX0_count 92 = .ok (.iconst 1, 1) := dk_4 (dk_at dksX0_count_4 6 rfl rfl)
theorem dX0_count_93 : decode cX0_count 93 = .ok (.goto 4, 3) := dk_167 0 4 (dk_at dksX0_count_4 7 rfl rfl)
theorem dX0_count_96 : decode cX0_count 96 = .ok (.iconst 0, 1) := dk_3 (dk_at dksX0_count_4 10 rfl rfl)
theorem dX0_count_97 : decode cX0_count 97 = .ok (.iadd, 1) := dk_96 (dk_at dksX0_count_4 11 rfl rfl)
theorem dX0_count_98 : decode cX0_count 98 = .ok (.ireturn, 1) := dk_172 (dk_at dksX0_count_4 12 rfl rfl)
theorem dX0_count_99 : decode cX0_count 99 = .ok (.aload_n 0, 1) := dk_42 (dk_at dksX0_count_4 13 rfl rfl)
theorem dX0_count_100 : decode cX0_count 100 = .ok (.getfield 9, 3) := dk_180 0 9 (dk_at dksX0_count_4 14 rfl rfl)
theorem dX0_count_103 : decode cX0_count 103 = .ok (.ireturn, 1) := dk_172 (dk_at dksX0_count_4 17 rfl rfl)
theorem dX0_count_104 : decode cX0_count 104 = .ok (.aload_n 0, 1) := dk_42 (dk_at dksX0_count_4 18 rfl rfl)
theorem dX0_count_105 : decode cX0_count 105 = .ok (.getfield 339, 3) := dk_180 1 83 (dk_at dksX0_count_4 19 rfl rfl)
theorem dX0_count_108 : decode cX0_count 108 = .ok (.iconst 0, 1) := dk_3 (dk_at dksX0_count_4 22 rfl rfl)
theorem dX0_count_109 : decode cX0_count 109 = .ok (.aaload, 1) := dk_50 (dk_at dksX0_count_4 23 rfl rfl)
theorem dX0_count_110 : decode cX0_count 110 = .ok (.getfield 347, 3) := dk_180 1 91 (dk_at dksX0_count_5 0 rfl rfl)
theorem dX0_count_113 : decode cX0_count 113 = .ok (.ifnonnull 8, 3) := dk_199 0 8 (dk_at dksX0_count_5 3 rfl rfl)
theorem dX0_count_116 : decode cX0_count 116 = .ok (.bipush (-4), 2) := dk_16 252 (dk_at dksX0_count_5 6 rfl rfl)
theorem dX0_count_118 : decode cX0_count 118 = .ok (.goto 12, 3) := dk_167 0 12 (dk_at dksX0_count_5 8 rfl rfl)
theorem dX0_count_121 : decode cX0_count 121 = .ok (.aload_n 0, 1) := dk_42 (dk_at dksX0_count_5 11 rfl rfl)
theorem dX0_count_122 : decode cX0_count 122 = .ok (.getfield 339, 3) := dk_180 1 83 (dk_at dksX0_count_5 12 rfl rfl)
theorem dX0_count_125 : decode cX0_count 125 = .ok (.iconst 0, 1) := dk_3 (dk_at dksX0_count_5 15 rfl rfl)
theorem dX0_count_126 : decode cX0_count 126 = .ok (.aaload, 1) := dk_50 (dk_at dksX0_count_5 16 rfl rfl)
theorem dX0_count_127 : decode cX0_count 127 = .ok (.getfield 350, 3) := dk_180 1 94 (dk_at dksX0_count_5 17 rfl rfl)
theorem dX0_count_130 : decode cX0_count 130 = .ok (.ireturn, 1) := dk_172 (dk_at dksX0_count_5 20 rfl rfl)
theorem dX0_count_131 : decode cX0_count 131 = .ok (.iconst (-1), 1) := dk_2 (dk_at dksX0_count_5 21 rfl rfl)
theorem dX0_count_132 : decode cX0_count 132 = .ok (.ireturn, 1) := dk_172 (dk_at dksX0_count_5 22 rfl rfl)
theorem q85 : (Jvm.Cond.initialized "EchoPens") ∈ lw_all := lw_g (lw_at lw_m1 1 rfl) rfl
theorem q110 : (Jvm.Cond.instanceMethod ({ cls := "EchoPens", name := "feed", desc := "(I)I" } : Jvm.MethodName)) ∈ lw_all := lw_g (lw_at lw_m1 26 rfl) rfl
theorem q111 : (Jvm.Cond.selects "EchoPens" ({ cls := "EchoPens", name := "feed", desc := "(I)I" } : Jvm.MethodName) ({ cls := "EchoPens", name := "feed", desc := "(I)I" } : Jvm.MethodName)) ∈ lw_all := lw_g (lw_at lw_m1 27 rfl) rfl
theorem q112 : (Jvm.Cond.code ({ cls := "EchoPens", name := "feed", desc := "(I)I" } : Jvm.MethodName) prog_1_method_3_code (2 : Nat) (Option.some Jvm.ClassFile.FieldType.int)) ∈ lw_all := lw_g (lw_at lw_m1 28 rfl) rfl
theorem q113 : (Jvm.Cond.constantLong "EchoPens" (1 : Nat) (127 : Int64)) ∈ lw_all := lw_g (lw_at lw_m1 29 rfl) rfl
theorem q114 : (Jvm.Cond.methodLink "EchoPens" (3 : Nat) ({ cls := "EchoPens", name := "isIn", desc := "(JJJ)Z" } : Jvm.MethodName)) ∈ lw_all := lw_g (lw_at lw_m1 30 rfl) rfl
theorem q115 : (Jvm.Cond.static ({ cls := "EchoPens", name := "isIn", desc := "(JJJ)Z" } : Jvm.MethodName)) ∈ lw_all := lw_g (lw_at lw_m1 31 rfl) rfl
theorem q116 : (Jvm.Cond.code ({ cls := "EchoPens", name := "isIn", desc := "(JJJ)Z" } : Jvm.MethodName) prog_1_method_1_code (6 : Nat) (Option.some Jvm.ClassFile.FieldType.boolean)) ∈ lw_all := lw_g (lw_at lw_m1 32 rfl) rfl
theorem q118 : (Jvm.Cond.instanceMethod ({ cls := "EchoPens", name := "end", desc := "(I)I" } : Jvm.MethodName)) ∈ lw_all := lw_g (lw_at lw_m1 34 rfl) rfl
theorem q119 : (Jvm.Cond.selects "EchoPens" ({ cls := "EchoPens", name := "end", desc := "(I)I" } : Jvm.MethodName) ({ cls := "EchoPens", name := "end", desc := "(I)I" } : Jvm.MethodName)) ∈ lw_all := lw_g (lw_at lw_m1 35 rfl) rfl
theorem q120 : (Jvm.Cond.code ({ cls := "EchoPens", name := "end", desc := "(I)I" } : Jvm.MethodName) prog_1_method_4_code (3 : Nat) (Option.some Jvm.ClassFile.FieldType.int)) ∈ lw_all := lw_g (lw_at lw_m1 36 rfl) rfl
theorem q122 : (Jvm.Cond.instanceMethod ({ cls := "EchoPens", name := "text", desc := "()I" } : Jvm.MethodName)) ∈ lw_all := lw_g (lw_at lw_m1 38 rfl) rfl
theorem q123 : (Jvm.Cond.selects "EchoPens" ({ cls := "EchoPens", name := "text", desc := "()I" } : Jvm.MethodName) ({ cls := "EchoPens", name := "text", desc := "()I" } : Jvm.MethodName)) ∈ lw_all := lw_g (lw_at lw_m1 39 rfl) rfl
theorem q124 : (Jvm.Cond.codeWith ({ cls := "EchoPens", name := "text", desc := "()I" } : Jvm.MethodName) prog_1_method_5_code (3 : Nat) (Option.some Jvm.ClassFile.FieldType.int) [((26 : Nat), (108 : Nat), (109 : Nat), (78 : Nat))]) ∈ lw_all := lw_g (lw_at lw_m1 40 rfl) rfl
theorem q125 : (Jvm.Cond.classLink "EchoPens" (78 : Nat) "EchoPens$Fault") ∈ lw_all := lw_g (lw_at lw_m1 41 rfl) rfl
theorem q126 : (Jvm.Cond.methodLink "EchoPens" (17 : Nat) ({ cls := "java/lang/System", name := "arraycopy", desc := "(Ljava/lang/Object;ILjava/lang/Object;II)V" } : Jvm.MethodName)) ∈ lw_all := lw_g (lw_at lw_m1 42 rfl) rfl
theorem q129 : (Jvm.Cond.classLink "EchoPens" (23 : Nat) "EchoPens$Reader") ∈ lw_all := lw_g (lw_at lw_m1 45 rfl) rfl
theorem q131 : (Jvm.Cond.methodLink "EchoPens" (25 : Nat) ({ cls := "EchoPens$Reader", name := "<init>", desc := "([B)V" } : Jvm.MethodName)) ∈ lw_all := lw_g (lw_at lw_m1 47 rfl) rfl
theorem q146 : (Jvm.Cond.fieldLinkNest "EchoPens" (112 : Nat) "EchoPens$Farm" "distances" "[I" "EchoPens") ∈ lw_tbl := lw_at lw_m1 62 rfl
theorem q150 : (Jvm.Cond.fieldLinkNest "EchoPens" (116 : Nat) "EchoPens$Farm" "vowels" "[I" "EchoPens") ∈ lw_tbl := lw_at lw_m1 66 rfl
theorem q153 : (Jvm.Cond.fieldLinkNest "EchoPens" (122 : Nat) "EchoPens$Farm" "breeds" "[I" "EchoPens") ∈ lw_tbl := lw_at lw_m1 69 rfl
theorem q156 : (Jvm.Cond.fieldLinkNest "EchoPens" (140 : Nat) "EchoPens$Farm" "words" "[[B" "EchoPens") ∈ lw_tbl := lw_at lw_m1 72 rfl
theorem q159 : (Jvm.Cond.fieldLinkNest "EchoPens" (134 : Nat) "EchoPens$Farm" "many" "[I" "EchoPens") ∈ lw_tbl := lw_at lw_m1 75 rfl
theorem q162 : (Jvm.Cond.fieldLinkNest "EchoPens" (125 : Nat) "EchoPens$Farm" "louds" "[I" "EchoPens") ∈ lw_tbl := lw_at lw_m1 78 rfl
theorem q165 : (Jvm.Cond.fieldLinkNest "EchoPens" (128 : Nat) "EchoPens$Farm" "pens" "[I" "EchoPens") ∈ lw_tbl := lw_at lw_m1 81 rfl
theorem q167 : (Jvm.Cond.fieldLinkNest "EchoPens" (86 : Nat) "EchoPens$Farm" "echoMany" "I" "EchoPens") ∈ lw_tbl := lw_at lw_m1 83 rfl
theorem q170 : (Jvm.Cond.fieldLinkNest "EchoPens" (103 : Nat) "EchoPens$Farm" "done" "I" "EchoPens") ∈ lw_tbl := lw_at lw_m1 86 rfl
theorem q172 : (Jvm.Cond.fieldLinkNest "EchoPens" (89 : Nat) "EchoPens$Farm" "week" "I" "EchoPens") ∈ lw_tbl := lw_at lw_m1 88 rfl
theorem q174 : (Jvm.Cond.fieldLinkNest "EchoPens" (92 : Nat) "EchoPens$Farm" "money" "I" "EchoPens") ∈ lw_tbl := lw_at lw_m1 90 rfl
theorem q288 : (Jvm.Cond.fieldLinkNest "EchoPens" (80 : Nat) "EchoPens$Fault" "code" "I" "EchoPens") ∈ lw_tbl := lw_at lw_m1 204 rfl
theorem q290 : (Jvm.Cond.fieldLinkNest "EchoPens" (83 : Nat) "EchoPens$Fault" "place" "I" "EchoPens") ∈ lw_tbl := lw_at lw_m1 206 rfl
theorem q310 : (Jvm.Cond.fieldLinkNest "EchoPens" (37 : Nat) "EchoPens$Reader" "farm" "LEchoPens$Farm;" "EchoPens") ∈ lw_tbl := lw_at lw_m1 226 rfl
theorem q312 : (Jvm.Cond.fieldLinkNest "EchoPens" (46 : Nat) "EchoPens$Reader" "orders" "[LEchoPens$Order;" "EchoPens") ∈ lw_tbl := lw_at lw_m1 228 rfl
theorem q313 : (Jvm.Cond.fieldLinkNest "EchoPens" (51 : Nat) "EchoPens$Reader" "penMany" "I" "EchoPens") ∈ lw_tbl := lw_at lw_m1 229 rfl
theorem q315 : (Jvm.Cond.fieldLinkNest "EchoPens" (55 : Nat) "EchoPens$Reader" "orderMany" "I" "EchoPens") ∈ lw_tbl := lw_at lw_m1 231 rfl
theorem q318 : (Jvm.Cond.fieldLinkNest "EchoPens" (75 : Nat) "EchoPens$Reader" "lines" "I" "EchoPens") ∈ lw_tbl := lw_at lw_m1 234 rfl
theorem q347 : (Jvm.Cond.methodLink "EchoPens" (29 : Nat) ({ cls := "EchoPens$Reader", name := "all", desc := "()V" } : Jvm.MethodName)) ∈ lw_all := lw_g (lw_at lw_m2 23 rfl) rfl
theorem q356 : (Jvm.Cond.laysStatic "EchoPens" "NAMES" "[Ljava/lang/String;") ∈ lw_tbl := lw_at lw_m2 32 rfl
theorem q427 : (Jvm.Cond.static ({ cls := "EchoPens", name := "has", desc := "(II)Z" } : Jvm.MethodName)) ∈ lw_all := lw_g (lw_at lw_m2 103 rfl) rfl
theorem q428 : (Jvm.Cond.code ({ cls := "EchoPens", name := "has", desc := "(II)Z" } : Jvm.MethodName) prog_1_method_2_code (2 : Nat) (Option.some Jvm.ClassFile.FieldType.boolean)) ∈ lw_all := lw_g (lw_at lw_m2 104 rfl) rfl
theorem q509 : (Jvm.Cond.fieldLinkNest "EchoPens" (158 : Nat) "EchoPens$Order" "end" "[B" "EchoPens") ∈ lw_tbl := lw_at lw_m2 185 rfl
theorem q511 : (Jvm.Cond.fieldLinkNest "EchoPens" (154 : Nat) "EchoPens$Order" "many" "I" "EchoPens") ∈ lw_tbl := lw_at lw_m2 187 rfl
theorem q513 : (Jvm.Cond.fieldLinkNest "EchoPens" (147 : Nat) "EchoPens$Order" "returns" "I" "EchoPens") ∈ lw_tbl := lw_at lw_m2 189 rfl
theorem q515 : (Jvm.Cond.fieldLinkNest "EchoPens" (151 : Nat) "EchoPens$Order" "price" "I" "EchoPens") ∈ lw_tbl := lw_at lw_m2 191 rfl
theorem q535 : (Jvm.Cond.methodLink "EchoPens" (40 : Nat) ({ cls := "EchoPens$Farm", name := "takes", desc := "(LEchoPens$Farm;)V" } : Jvm.MethodName)) ∈ lw_all := lw_g (lw_at lw_m2 211 rfl) rfl
theorem q541 : (Jvm.Cond.instanceMethod ({ cls := "EchoPens", name := "fault", desc := "()I" } : Jvm.MethodName)) ∈ lw_all := lw_g (lw_at lw_m2 217 rfl) rfl
theorem q542 : (Jvm.Cond.selects "EchoPens" ({ cls := "EchoPens", name := "fault", desc := "()I" } : Jvm.MethodName) ({ cls := "EchoPens", name := "fault", desc := "()I" } : Jvm.MethodName)) ∈ lw_all := lw_g (lw_at lw_m2 218 rfl) rfl
theorem q543 : (Jvm.Cond.code ({ cls := "EchoPens", name := "fault", desc := "()I" } : Jvm.MethodName) prog_1_method_6_code (1 : Nat) (Option.some Jvm.ClassFile.FieldType.int)) ∈ lw_all := lw_g (lw_at lw_m2 219 rfl) rfl
theorem q545 : (Jvm.Cond.instanceMethod ({ cls := "EchoPens", name := "rule", desc := "(I)I" } : Jvm.MethodName)) ∈ lw_all := lw_g (lw_at lw_m2 221 rfl) rfl
theorem q546 : (Jvm.Cond.selects "EchoPens" ({ cls := "EchoPens", name := "rule", desc := "(I)I" } : Jvm.MethodName) ({ cls := "EchoPens", name := "rule", desc := "(I)I" } : Jvm.MethodName)) ∈ lw_all := lw_g (lw_at lw_m2 222 rfl) rfl
theorem q547 : (Jvm.Cond.code ({ cls := "EchoPens", name := "rule", desc := "(I)I" } : Jvm.MethodName) prog_1_method_10_code (2 : Nat) (Option.some Jvm.ClassFile.FieldType.int)) ∈ lw_all := lw_g (lw_at lw_m2 223 rfl) rfl
theorem q548 : (Jvm.Cond.methodLink "EchoPens" (95 : Nat) ({ cls := "EchoPens$Farm", name := "in", desc := "(I)I" } : Jvm.MethodName)) ∈ lw_all := lw_g (lw_at lw_m2 224 rfl) rfl
theorem q549 : (Jvm.Cond.methodLink "EchoPens" (99 : Nat) ({ cls := "EchoPens$Farm", name := "silent", desc := "()I" } : Jvm.MethodName)) ∈ lw_all := lw_g (lw_at lw_m2 225 rfl) rfl
theorem q562 : (Jvm.Cond.instanceMethod ({ cls := "EchoPens", name := "pen", desc := "(II)I" } : Jvm.MethodName)) ∈ lw_all := lw_g (lw_at lw_m2 238 rfl) rfl
theorem q563 : (Jvm.Cond.selects "EchoPens" ({ cls := "EchoPens", name := "pen", desc := "(II)I" } : Jvm.MethodName) ({ cls := "EchoPens", name := "pen", desc := "(II)I" } : Jvm.MethodName)) ∈ lw_all := lw_g (lw_at lw_m2 239 rfl) rfl
theorem q564 : (Jvm.Cond.code ({ cls := "EchoPens", name := "pen", desc := "(II)I" } : Jvm.MethodName) prog_1_method_11_code (3 : Nat) (Option.some Jvm.ClassFile.FieldType.int)) ∈ lw_all := lw_g (lw_at lw_m3 0 rfl) rfl
theorem q565 : (Jvm.Cond.methodLink "EchoPens" (106 : Nat) ({ cls := "EchoPens", name := "isPen", desc := "(I)Z" } : Jvm.MethodName)) ∈ lw_all := lw_g (lw_at lw_m3 1 rfl) rfl
theorem q566 : (Jvm.Cond.privateMethod ({ cls := "EchoPens", name := "isPen", desc := "(I)Z" } : Jvm.MethodName)) ∈ lw_tbl := lw_at lw_m3 2 rfl
theorem q567 : (Jvm.Cond.instanceMethod ({ cls := "EchoPens", name := "isPen", desc := "(I)Z" } : Jvm.MethodName)) ∈ lw_all := lw_g (lw_at lw_m3 3 rfl) rfl
theorem q568 : (Jvm.Cond.instantiable "EchoPens" (25 : Nat)) ∈ lw_all := lw_g (lw_at lw_m3 4 rfl) rfl
theorem q569 : (Jvm.Cond.code ({ cls := "EchoPens", name := "isPen", desc := "(I)Z" } : Jvm.MethodName) prog_1_method_7_code (2 : Nat) (Option.some Jvm.ClassFile.FieldType.boolean)) ∈ lw_all := lw_g (lw_at lw_m3 5 rfl) rfl
theorem q570 : (Jvm.Cond.constantLong "EchoPens" (110 : Nat) (2 : Int64)) ∈ lw_all := lw_g (lw_at lw_m3 6 rfl) rfl
theorem q572 : (Jvm.Cond.instanceMethod ({ cls := "EchoPens", name := "echo", desc := "(II)I" } : Jvm.MethodName)) ∈ lw_all := lw_g (lw_at lw_m3 8 rfl) rfl
theorem q573 : (Jvm.Cond.selects "EchoPens" ({ cls := "EchoPens", name := "echo", desc := "(II)I" } : Jvm.MethodName) ({ cls := "EchoPens", name := "echo", desc := "(II)I" } : Jvm.MethodName)) ∈ lw_all := lw_g (lw_at lw_m3 9 rfl) rfl
theorem q574 : (Jvm.Cond.code ({ cls := "EchoPens", name := "echo", desc := "(II)I" } : Jvm.MethodName) prog_1_method_12_code (3 : Nat) (Option.some Jvm.ClassFile.FieldType.int)) ∈ lw_all := lw_g (lw_at lw_m3 10 rfl) rfl
theorem q575 : (Jvm.Cond.methodLink "EchoPens" (119 : Nat) ({ cls := "EchoPens", name := "isEcho", desc := "(I)Z" } : Jvm.MethodName)) ∈ lw_all := lw_g (lw_at lw_m3 11 rfl) rfl
theorem q576 : (Jvm.Cond.privateMethod ({ cls := "EchoPens", name := "isEcho", desc := "(I)Z" } : Jvm.MethodName)) ∈ lw_tbl := lw_at lw_m3 12 rfl
theorem q577 : (Jvm.Cond.instanceMethod ({ cls := "EchoPens", name := "isEcho", desc := "(I)Z" } : Jvm.MethodName)) ∈ lw_all := lw_g (lw_at lw_m3 13 rfl) rfl
theorem q578 : (Jvm.Cond.code ({ cls := "EchoPens", name := "isEcho", desc := "(I)Z" } : Jvm.MethodName) prog_1_method_8_code (2 : Nat) (Option.some Jvm.ClassFile.FieldType.boolean)) ∈ lw_all := lw_g (lw_at lw_m3 14 rfl) rfl
theorem q579 : (Jvm.Cond.methodLink "EchoPens" (131 : Nat) ({ cls := "EchoPens$Farm", name := "returns", desc := "(I)I" } : Jvm.MethodName)) ∈ lw_all := lw_g (lw_at lw_m3 15 rfl) rfl
theorem q584 : (Jvm.Cond.laysStatic "EchoPens" "BREEDS" "[LEchoPens$Plain;") ∈ lw_tbl := lw_at lw_m3 20 rfl
theorem q605 : (Jvm.Cond.methodLink "EchoPens" (137 : Nat) ({ cls := "EchoPens$Farm", name := "period", desc := "(I)I" } : Jvm.MethodName)) ∈ lw_all := lw_g (lw_at lw_m3 41 rfl) rfl
theorem q610 : (Jvm.Cond.instanceMethod ({ cls := "EchoPens", name := "letter", desc := "(II)I" } : Jvm.MethodName)) ∈ lw_all := lw_g (lw_at lw_m3 46 rfl) rfl
theorem q611 : (Jvm.Cond.selects "EchoPens" ({ cls := "EchoPens", name := "letter", desc := "(II)I" } : Jvm.MethodName) ({ cls := "EchoPens", name := "letter", desc := "(II)I" } : Jvm.MethodName)) ∈ lw_all := lw_g (lw_at lw_m3 47 rfl) rfl
theorem q612 : (Jvm.Cond.code ({ cls := "EchoPens", name := "letter", desc := "(II)I" } : Jvm.MethodName) prog_1_method_13_code (3 : Nat) (Option.some Jvm.ClassFile.FieldType.int)) ∈ lw_all := lw_g (lw_at lw_m3 48 rfl) rfl
theorem q614 : (Jvm.Cond.instanceMethod ({ cls := "EchoPens", name := "order", desc := "(II)I" } : Jvm.MethodName)) ∈ lw_all := lw_g (lw_at lw_m3 50 rfl) rfl
theorem q615 : (Jvm.Cond.selects "EchoPens" ({ cls := "EchoPens", name := "order", desc := "(II)I" } : Jvm.MethodName) ({ cls := "EchoPens", name := "order", desc := "(II)I" } : Jvm.MethodName)) ∈ lw_all := lw_g (lw_at lw_m3 51 rfl) rfl
theorem q616 : (Jvm.Cond.code ({ cls := "EchoPens", name := "order", desc := "(II)I" } : Jvm.MethodName) prog_1_method_14_code (4 : Nat) (Option.some Jvm.ClassFile.FieldType.int)) ∈ lw_all := lw_g (lw_at lw_m3 52 rfl) rfl
theorem q617 : (Jvm.Cond.methodLink "EchoPens" (144 : Nat) ({ cls := "EchoPens", name := "isOrder", desc := "(I)Z" } : Jvm.MethodName)) ∈ lw_all := lw_g (lw_at lw_m3 53 rfl) rfl
theorem q618 : (Jvm.Cond.privateMethod ({ cls := "EchoPens", name := "isOrder", desc := "(I)Z" } : Jvm.MethodName)) ∈ lw_tbl := lw_at lw_m3 54 rfl
theorem q619 : (Jvm.Cond.instanceMethod ({ cls := "EchoPens", name := "isOrder", desc := "(I)Z" } : Jvm.MethodName)) ∈ lw_all := lw_g (lw_at lw_m3 55 rfl) rfl
theorem q620 : (Jvm.Cond.code ({ cls := "EchoPens", name := "isOrder", desc := "(I)Z" } : Jvm.MethodName) prog_1_method_9_code (2 : Nat) (Option.some Jvm.ClassFile.FieldType.boolean)) ∈ lw_all := lw_g (lw_at lw_m3 56 rfl) rfl
theorem q621 : (Jvm.Cond.constantLong "EchoPens" (156 : Nat) (10 : Int64)) ∈ lw_all := lw_g (lw_at lw_m3 57 rfl) rfl
theorem q623 : (Jvm.Cond.instanceMethod ({ cls := "EchoPens", name := "drive", desc := "(II)I" } : Jvm.MethodName)) ∈ lw_all := lw_g (lw_at lw_m3 59 rfl) rfl
theorem q624 : (Jvm.Cond.selects "EchoPens" ({ cls := "EchoPens", name := "drive", desc := "(II)I" } : Jvm.MethodName) ({ cls := "EchoPens", name := "drive", desc := "(II)I" } : Jvm.MethodName)) ∈ lw_all := lw_g (lw_at lw_m3 60 rfl) rfl
theorem q625 : (Jvm.Cond.code ({ cls := "EchoPens", name := "drive", desc := "(II)I" } : Jvm.MethodName) prog_1_method_17_code (3 : Nat) (Option.some Jvm.ClassFile.FieldType.int)) ∈ lw_all := lw_g (lw_at lw_m3 61 rfl) rfl
theorem q626 : (Jvm.Cond.methodLink "EchoPens" (170 : Nat) ({ cls := "EchoPens", name := "drives", desc := "(II)I" } : Jvm.MethodName)) ∈ lw_all := lw_g (lw_at lw_m3 62 rfl) rfl
theorem q627 : (Jvm.Cond.privateMethod ({ cls := "EchoPens", name := "drives", desc := "(II)I" } : Jvm.MethodName)) ∈ lw_tbl := lw_at lw_m3 63 rfl
theorem q628 : (Jvm.Cond.instanceMethod ({ cls := "EchoPens", name := "drives", desc := "(II)I" } : Jvm.MethodName)) ∈ lw_all := lw_g (lw_at lw_m3 64 rfl) rfl
theorem q629 : (Jvm.Cond.code ({ cls := "EchoPens", name := "drives", desc := "(II)I" } : Jvm.MethodName) prog_1_method_16_code (4 : Nat) (Option.some Jvm.ClassFile.FieldType.int)) ∈ lw_all := lw_g (lw_at lw_m3 65 rfl) rfl
theorem q630 : (Jvm.Cond.methodLink "EchoPens" (166 : Nat) ({ cls := "EchoPens", name := "hasRoom", desc := "(LEchoPens$Farm;I)Z" } : Jvm.MethodName)) ∈ lw_all := lw_g (lw_at lw_m3 66 rfl) rfl
theorem q631 : (Jvm.Cond.privateMethod ({ cls := "EchoPens", name := "hasRoom", desc := "(LEchoPens$Farm;I)Z" } : Jvm.MethodName)) ∈ lw_tbl := lw_at lw_m3 67 rfl
theorem q632 : (Jvm.Cond.instanceMethod ({ cls := "EchoPens", name := "hasRoom", desc := "(LEchoPens$Farm;I)Z" } : Jvm.MethodName)) ∈ lw_all := lw_g (lw_at lw_m3 68 rfl) rfl
theorem q633 : (Jvm.Cond.code ({ cls := "EchoPens", name := "hasRoom", desc := "(LEchoPens$Farm;I)Z" } : Jvm.MethodName) prog_1_method_15_code (3 : Nat) (Option.some Jvm.ClassFile.FieldType.boolean)) ∈ lw_all := lw_g (lw_at lw_m3 69 rfl) rfl
theorem q634 : (Jvm.Cond.methodLink "EchoPens" (161 : Nat) ({ cls := "java/lang/Integer", name := "bitCount", desc := "(I)I" } : Jvm.MethodName)) ∈ lw_all := lw_g (lw_at lw_m3 70 rfl) rfl
theorem q636 : (Jvm.Cond.instanceMethod ({ cls := "EchoPens", name := "fence", desc := "(III)I" } : Jvm.MethodName)) ∈ lw_all := lw_g (lw_at lw_m3 72 rfl) rfl
theorem q637 : (Jvm.Cond.selects "EchoPens" ({ cls := "EchoPens", name := "fence", desc := "(III)I" } : Jvm.MethodName) ({ cls := "EchoPens", name := "fence", desc := "(III)I" } : Jvm.MethodName)) ∈ lw_all := lw_g (lw_at lw_m3 73 rfl) rfl
theorem q638 : (Jvm.Cond.code ({ cls := "EchoPens", name := "fence", desc := "(III)I" } : Jvm.MethodName) prog_1_method_19_code (4 : Nat) (Option.some Jvm.ClassFile.FieldType.int)) ∈ lw_all := lw_g (lw_at lw_m3 74 rfl) rfl
theorem q639 : (Jvm.Cond.constantLong "EchoPens" (174 : Nat) (9 : Int64)) ∈ lw_all := lw_g (lw_at lw_m3 75 rfl) rfl
theorem q640 : (Jvm.Cond.stringRef "EchoPens" (176 : Nat) "aeiou") ∈ lw_tbl := lw_at lw_m3 76 rfl
theorem q641 : (Jvm.Cond.methodLink "EchoPens" (178 : Nat) ({ cls := "java/lang/String", name := "length", desc := "()I" } : Jvm.MethodName)) ∈ lw_all := lw_g (lw_at lw_m3 77 rfl) rfl
theorem q642 : (Jvm.Cond.methodLink "EchoPens" (183 : Nat) ({ cls := "EchoPens", name := "sets", desc := "([III)I" } : Jvm.MethodName)) ∈ lw_all := lw_g (lw_at lw_m3 78 rfl) rfl
theorem q643 : (Jvm.Cond.static ({ cls := "EchoPens", name := "sets", desc := "([III)I" } : Jvm.MethodName)) ∈ lw_all := lw_g (lw_at lw_m3 79 rfl) rfl
theorem q644 : (Jvm.Cond.code ({ cls := "EchoPens", name := "sets", desc := "([III)I" } : Jvm.MethodName) prog_1_method_18_code (4 : Nat) (Option.some Jvm.ClassFile.FieldType.int)) ∈ lw_all := lw_g (lw_at lw_m3 80 rfl) rfl
theorem q646 : (Jvm.Cond.instanceMethod ({ cls := "EchoPens", name := "raise", desc := "(III)I" } : Jvm.MethodName)) ∈ lw_all := lw_g (lw_at lw_m3 82 rfl) rfl
theorem q647 : (Jvm.Cond.selects "EchoPens" ({ cls := "EchoPens", name := "raise", desc := "(III)I" } : Jvm.MethodName) ({ cls := "EchoPens", name := "raise", desc := "(III)I" } : Jvm.MethodName)) ∈ lw_all := lw_g (lw_at lw_m3 83 rfl) rfl
theorem q648 : (Jvm.Cond.code ({ cls := "EchoPens", name := "raise", desc := "(III)I" } : Jvm.MethodName) prog_1_method_20_code (4 : Nat) (Option.some Jvm.ClassFile.FieldType.int)) ∈ lw_all := lw_g (lw_at lw_m3 84 rfl) rfl
theorem q649 : (Jvm.Cond.constantLong "EchoPens" (187 : Nat) (99 : Int64)) ∈ lw_all := lw_g (lw_at lw_m3 85 rfl) rfl
theorem q650 : (Jvm.Cond.constantLong "EchoPens" (189 : Nat) (3 : Int64)) ∈ lw_all := lw_g (lw_at lw_m3 86 rfl) rfl
theorem q652 : (Jvm.Cond.instanceMethod ({ cls := "EchoPens", name := "clip", desc := "(I)I" } : Jvm.MethodName)) ∈ lw_all := lw_g (lw_at lw_m3 88 rfl) rfl
theorem q653 : (Jvm.Cond.selects "EchoPens" ({ cls := "EchoPens", name := "clip", desc := "(I)I" } : Jvm.MethodName) ({ cls := "EchoPens", name := "clip", desc := "(I)I" } : Jvm.MethodName)) ∈ lw_all := lw_g (lw_at lw_m3 89 rfl) rfl
theorem q654 : (Jvm.Cond.code ({ cls := "EchoPens", name := "clip", desc := "(I)I" } : Jvm.MethodName) prog_1_method_21_code (2 : Nat) (Option.some Jvm.ClassFile.FieldType.int)) ∈ lw_all := lw_g (lw_at lw_m3 90 rfl) rfl
theorem q655 : (Jvm.Cond.methodLink "EchoPens" (191 : Nat) ({ cls := "EchoPens$Farm", name := "isSold", desc := "(I)Z" } : Jvm.MethodName)) ∈ lw_all := lw_g (lw_at lw_m3 91 rfl) rfl
theorem q657 : (Jvm.Cond.instanceMethod ({ cls := "EchoPens", name := "teach", desc := "(II)I" } : Jvm.MethodName)) ∈ lw_all := lw_g (lw_at lw_m3 93 rfl) rfl
theorem q658 : (Jvm.Cond.selects "EchoPens" ({ cls := "EchoPens", name := "teach", desc := "(II)I" } : Jvm.MethodName) ({ cls := "EchoPens", name := "teach", desc := "(II)I" } : Jvm.MethodName)) ∈ lw_all := lw_g (lw_at lw_m3 94 rfl) rfl
theorem q659 : (Jvm.Cond.code ({ cls := "EchoPens", name := "teach", desc := "(II)I" } : Jvm.MethodName) prog_1_method_22_code (3 : Nat) (Option.some Jvm.ClassFile.FieldType.int)) ∈ lw_all := lw_g (lw_at lw_m3 95 rfl) rfl
theorem q660 : (Jvm.Cond.constantLong "EchoPens" (194 : Nat) (97 : Int64)) ∈ lw_all := lw_g (lw_at lw_m3 96 rfl) rfl
theorem q661 : (Jvm.Cond.constantLong "EchoPens" (196 : Nat) (122 : Int64)) ∈ lw_all := lw_g (lw_at lw_m3 97 rfl) rfl
theorem q663 : (Jvm.Cond.instanceMethod ({ cls := "EchoPens", name := "cross", desc := "(II)I" } : Jvm.MethodName)) ∈ lw_all := lw_g (lw_at lw_m3 99 rfl) rfl
theorem q664 : (Jvm.Cond.selects "EchoPens" ({ cls := "EchoPens", name := "cross", desc := "(II)I" } : Jvm.MethodName) ({ cls := "EchoPens", name := "cross", desc := "(II)I" } : Jvm.MethodName)) ∈ lw_all := lw_g (lw_at lw_m3 100 rfl) rfl
theorem q665 : (Jvm.Cond.code ({ cls := "EchoPens", name := "cross", desc := "(II)I" } : Jvm.MethodName) prog_1_method_23_code (4 : Nat) (Option.some Jvm.ClassFile.FieldType.int)) ∈ lw_all := lw_g (lw_at lw_m3 101 rfl) rfl
theorem q667 : (Jvm.Cond.instanceMethod ({ cls := "EchoPens", name := "go", desc := "(I)I" } : Jvm.MethodName)) ∈ lw_all := lw_g (lw_at lw_m3 103 rfl) rfl
theorem q668 : (Jvm.Cond.selects "EchoPens" ({ cls := "EchoPens", name := "go", desc := "(I)I" } : Jvm.MethodName) ({ cls := "EchoPens", name := "go", desc := "(I)I" } : Jvm.MethodName)) ∈ lw_all := lw_g (lw_at lw_m3 104 rfl) rfl
theorem q669 : (Jvm.Cond.code ({ cls := "EchoPens", name := "go", desc := "(I)I" } : Jvm.MethodName) prog_1_method_25_code (3 : Nat) (Option.some Jvm.ClassFile.FieldType.int)) ∈ lw_all := lw_g (lw_at lw_m3 105 rfl) rfl
theorem q670 : (Jvm.Cond.constantLong "EchoPens" (200 : Nat) (30 : Int64)) ∈ lw_all := lw_g (lw_at lw_m3 106 rfl) rfl
theorem q671 : (Jvm.Cond.methodLink "EchoPens" (202 : Nat) ({ cls := "EchoPens", name := "goes", desc := "(LEchoPens$Farm;I)V" } : Jvm.MethodName)) ∈ lw_all := lw_g (lw_at lw_m3 107 rfl) rfl
theorem q672 : (Jvm.Cond.privateMethod ({ cls := "EchoPens", name := "goes", desc := "(LEchoPens$Farm;I)V" } : Jvm.MethodName)) ∈ lw_tbl := lw_at lw_m3 108 rfl
theorem q673 : (Jvm.Cond.instanceMethod ({ cls := "EchoPens", name := "goes", desc := "(LEchoPens$Farm;I)V" } : Jvm.MethodName)) ∈ lw_all := lw_g (lw_at lw_m3 109 rfl) rfl
theorem q674 : (Jvm.Cond.code ({ cls := "EchoPens", name := "goes", desc := "(LEchoPens$Farm;I)V" } : Jvm.MethodName) prog_1_method_24_code (4 : Nat) (Option.none : Option Jvm.ClassFile.FieldType)) ∈ lw_all := lw_g (lw_at lw_m3 110 rfl) rfl
theorem q675 : (Jvm.Cond.methodLink "EchoPens" (198 : Nat) ({ cls := "EchoPens$Farm", name := "week", desc := "()V" } : Jvm.MethodName)) ∈ lw_all := lw_g (lw_at lw_m3 111 rfl) rfl
theorem q720 : (Jvm.Cond.instanceMethod ({ cls := "EchoPens", name := "ahead", desc := "(III)I" } : Jvm.MethodName)) ∈ lw_all := lw_g (lw_at lw_m3 156 rfl) rfl
theorem q721 : (Jvm.Cond.selects "EchoPens" ({ cls := "EchoPens", name := "ahead", desc := "(III)I" } : Jvm.MethodName) ({ cls := "EchoPens", name := "ahead", desc := "(III)I" } : Jvm.MethodName)) ∈ lw_all := lw_g (lw_at lw_m3 157 rfl) rfl
theorem q722 : (Jvm.Cond.code ({ cls := "EchoPens", name := "ahead", desc := "(III)I" } : Jvm.MethodName) prog_1_method_26_code (4 : Nat) (Option.some Jvm.ClassFile.FieldType.int)) ∈ lw_all := lw_g (lw_at lw_m3 158 rfl) rfl
theorem q724 : (Jvm.Cond.instanceMethod ({ cls := "EchoPens", name := "when", desc := "(II)I" } : Jvm.MethodName)) ∈ lw_all := lw_g (lw_at lw_m3 160 rfl) rfl
theorem q725 : (Jvm.Cond.selects "EchoPens" ({ cls := "EchoPens", name := "when", desc := "(II)I" } : Jvm.MethodName) ({ cls := "EchoPens", name := "when", desc := "(II)I" } : Jvm.MethodName)) ∈ lw_all := lw_g (lw_at lw_m3 161 rfl) rfl
theorem q726 : (Jvm.Cond.code ({ cls := "EchoPens", name := "when", desc := "(II)I" } : Jvm.MethodName) prog_1_method_29_code (4 : Nat) (Option.some Jvm.ClassFile.FieldType.int)) ∈ lw_all := lw_g (lw_at lw_m3 162 rfl) rfl
theorem q727 : (Jvm.Cond.methodLink "EchoPens" (217 : Nat) ({ cls := "EchoPens", name := "doesMeet", desc := "(LEchoPens$Farm;II)Z" } : Jvm.MethodName)) ∈ lw_all := lw_g (lw_at lw_m3 163 rfl) rfl
theorem q728 : (Jvm.Cond.privateMethod ({ cls := "EchoPens", name := "doesMeet", desc := "(LEchoPens$Farm;II)Z" } : Jvm.MethodName)) ∈ lw_tbl := lw_at lw_m3 164 rfl
theorem q729 : (Jvm.Cond.instanceMethod ({ cls := "EchoPens", name := "doesMeet", desc := "(LEchoPens$Farm;II)Z" } : Jvm.MethodName)) ∈ lw_all := lw_g (lw_at lw_m3 165 rfl) rfl
theorem q730 : (Jvm.Cond.code ({ cls := "EchoPens", name := "doesMeet", desc := "(LEchoPens$Farm;II)Z" } : Jvm.MethodName) prog_1_method_28_code (4 : Nat) (Option.some Jvm.ClassFile.FieldType.boolean)) ∈ lw_all := lw_g (lw_at lw_m3 166 rfl) rfl
theorem q731 : (Jvm.Cond.methodLink "EchoPens" (209 : Nat) ({ cls := "EchoPens", name := "has", desc := "(II)Z" } : Jvm.MethodName)) ∈ lw_all := lw_g (lw_at lw_m3 167 rfl) rfl
theorem q732 : (Jvm.Cond.methodLink "EchoPens" (213 : Nat) ({ cls := "EchoPens", name := "endsSo", desc := "(LEchoPens$Farm;II)Z" } : Jvm.MethodName)) ∈ lw_all := lw_g (lw_at lw_m3 168 rfl) rfl
theorem q733 : (Jvm.Cond.privateMethod ({ cls := "EchoPens", name := "endsSo", desc := "(LEchoPens$Farm;II)Z" } : Jvm.MethodName)) ∈ lw_tbl := lw_at lw_m3 169 rfl
theorem q734 : (Jvm.Cond.instanceMethod ({ cls := "EchoPens", name := "endsSo", desc := "(LEchoPens$Farm;II)Z" } : Jvm.MethodName)) ∈ lw_all := lw_g (lw_at lw_m3 170 rfl) rfl
theorem q735 : (Jvm.Cond.code ({ cls := "EchoPens", name := "endsSo", desc := "(LEchoPens$Farm;II)Z" } : Jvm.MethodName) prog_1_method_27_code (7 : Nat) (Option.some Jvm.ClassFile.FieldType.boolean)) ∈ lw_all := lw_g (lw_at lw_m3 171 rfl) rfl
theorem q737 : (Jvm.Cond.instanceMethod ({ cls := "EchoPens", name := "heard", desc := "(II)I" } : Jvm.MethodName)) ∈ lw_all := lw_g (lw_at lw_m3 173 rfl) rfl
theorem q738 : (Jvm.Cond.selects "EchoPens" ({ cls := "EchoPens", name := "heard", desc := "(II)I" } : Jvm.MethodName) ({ cls := "EchoPens", name := "heard", desc := "(II)I" } : Jvm.MethodName)) ∈ lw_all := lw_g (lw_at lw_m3 174 rfl) rfl
theorem q739 : (Jvm.Cond.code ({ cls := "EchoPens", name := "heard", desc := "(II)I" } : Jvm.MethodName) prog_1_method_31_code (3 : Nat) (Option.some Jvm.ClassFile.FieldType.int)) ∈ lw_all := lw_g (lw_at lw_m3 175 rfl) rfl
theorem q740 : (Jvm.Cond.methodLink "EchoPens" (223 : Nat) ({ cls := "EchoPens", name := "heardIn", desc := "(LEchoPens$Farm;II)I" } : Jvm.MethodName)) ∈ lw_all := lw_g (lw_at lw_m3 176 rfl) rfl
theorem q741 : (Jvm.Cond.privateMethod ({ cls := "EchoPens", name := "heardIn", desc := "(LEchoPens$Farm;II)I" } : Jvm.MethodName)) ∈ lw_tbl := lw_at lw_m3 177 rfl
theorem q742 : (Jvm.Cond.instanceMethod ({ cls := "EchoPens", name := "heardIn", desc := "(LEchoPens$Farm;II)I" } : Jvm.MethodName)) ∈ lw_all := lw_g (lw_at lw_m3 178 rfl) rfl
theorem q743 : (Jvm.Cond.code ({ cls := "EchoPens", name := "heardIn", desc := "(LEchoPens$Farm;II)I" } : Jvm.MethodName) prog_1_method_30_code (6 : Nat) (Option.some Jvm.ClassFile.FieldType.int)) ∈ lw_all := lw_g (lw_at lw_m3 179 rfl) rfl
theorem q744 : (Jvm.Cond.methodLink "EchoPens" (220 : Nat) ({ cls := "EchoPens$Farm", name := "isHeard", desc := "(II)Z" } : Jvm.MethodName)) ∈ lw_all := lw_g (lw_at lw_m3 180 rfl) rfl
theorem q752 : (Jvm.Cond.instanceMethod ({ cls := "EchoPens", name := "together", desc := "(I)I" } : Jvm.MethodName)) ∈ lw_all := lw_g (lw_at lw_m3 188 rfl) rfl
theorem q753 : (Jvm.Cond.selects "EchoPens" ({ cls := "EchoPens", name := "together", desc := "(I)I" } : Jvm.MethodName) ({ cls := "EchoPens", name := "together", desc := "(I)I" } : Jvm.MethodName)) ∈ lw_all := lw_g (lw_at lw_m3 189 rfl) rfl
theorem q754 : (Jvm.Cond.code ({ cls := "EchoPens", name := "together", desc := "(I)I" } : Jvm.MethodName) prog_1_method_32_code (3 : Nat) (Option.some Jvm.ClassFile.FieldType.int)) ∈ lw_all := lw_g (lw_at lw_m3 190 rfl) rfl
theorem q756 : (Jvm.Cond.instanceMethod ({ cls := "EchoPens", name := "still", desc := "(I)I" } : Jvm.MethodName)) ∈ lw_all := lw_g (lw_at lw_m3 192 rfl) rfl
theorem q757 : (Jvm.Cond.selects "EchoPens" ({ cls := "EchoPens", name := "still", desc := "(I)I" } : Jvm.MethodName) ({ cls := "EchoPens", name := "still", desc := "(I)I" } : Jvm.MethodName)) ∈ lw_all := lw_g (lw_at lw_m3 193 rfl) rfl
theorem q758 : (Jvm.Cond.code ({ cls := "EchoPens", name := "still", desc := "(I)I" } : Jvm.MethodName) prog_1_method_33_code (6 : Nat) (Option.some Jvm.ClassFile.FieldType.int)) ∈ lw_all := lw_g (lw_at lw_m3 194 rfl) rfl
theorem q759 : (Jvm.Cond.methodLink "EchoPens" (227 : Nat) ({ cls := "java/lang/Math", name := "max", desc := "(II)I" } : Jvm.MethodName)) ∈ lw_all := lw_g (lw_at lw_m3 195 rfl) rfl
theorem q761 : (Jvm.Cond.instanceMethod ({ cls := "EchoPens", name := "meets", desc := "(I)I" } : Jvm.MethodName)) ∈ lw_all := lw_g (lw_at lw_m3 197 rfl) rfl
theorem q762 : (Jvm.Cond.selects "EchoPens" ({ cls := "EchoPens", name := "meets", desc := "(I)I" } : Jvm.MethodName) ({ cls := "EchoPens", name := "meets", desc := "(I)I" } : Jvm.MethodName)) ∈ lw_all := lw_g (lw_at lw_m3 198 rfl) rfl
theorem q763 : (Jvm.Cond.code ({ cls := "EchoPens", name := "meets", desc := "(I)I" } : Jvm.MethodName) prog_1_method_34_code (4 : Nat) (Option.some Jvm.ClassFile.FieldType.int)) ∈ lw_all := lw_g (lw_at lw_m3 199 rfl) rfl
theorem q765 : (Jvm.Cond.instanceMethod ({ cls := "EchoPens", name := "sell", desc := "(II)I" } : Jvm.MethodName)) ∈ lw_all := lw_g (lw_at lw_m3 201 rfl) rfl
theorem q766 : (Jvm.Cond.selects "EchoPens" ({ cls := "EchoPens", name := "sell", desc := "(II)I" } : Jvm.MethodName) ({ cls := "EchoPens", name := "sell", desc := "(II)I" } : Jvm.MethodName)) ∈ lw_all := lw_g (lw_at lw_m3 202 rfl) rfl
theorem q767 : (Jvm.Cond.code ({ cls := "EchoPens", name := "sell", desc := "(II)I" } : Jvm.MethodName) prog_1_method_35_code (3 : Nat) (Option.some Jvm.ClassFile.FieldType.int)) ∈ lw_all := lw_g (lw_at lw_m3 203 rfl) rfl
theorem q769 : (Jvm.Cond.instanceMethod ({ cls := "EchoPens", name := "sale", desc := "(I)I" } : Jvm.MethodName)) ∈ lw_all := lw_g (lw_at lw_m3 205 rfl) rfl
theorem q770 : (Jvm.Cond.selects "EchoPens" ({ cls := "EchoPens", name := "sale", desc := "(I)I" } : Jvm.MethodName) ({ cls := "EchoPens", name := "sale", desc := "(I)I" } : Jvm.MethodName)) ∈ lw_all := lw_g (lw_at lw_m3 206 rfl) rfl
theorem q771 : (Jvm.Cond.code ({ cls := "EchoPens", name := "sale", desc := "(I)I" } : Jvm.MethodName) prog_1_method_38_code (2 : Nat) (Option.some Jvm.ClassFile.FieldType.int)) ∈ lw_all := lw_g (lw_at lw_m3 207 rfl) rfl
theorem q772 : (Jvm.Cond.methodLink "EchoPens" (245 : Nat) ({ cls := "EchoPens", name := "saleOf", desc := "(LEchoPens$Farm;)I" } : Jvm.MethodName)) ∈ lw_all := lw_g (lw_at lw_m3 208 rfl) rfl
theorem q773 : (Jvm.Cond.privateMethod ({ cls := "EchoPens", name := "saleOf", desc := "(LEchoPens$Farm;)I" } : Jvm.MethodName)) ∈ lw_tbl := lw_at lw_m3 209 rfl
theorem q774 : (Jvm.Cond.instanceMethod ({ cls := "EchoPens", name := "saleOf", desc := "(LEchoPens$Farm;)I" } : Jvm.MethodName)) ∈ lw_all := lw_g (lw_at lw_m3 210 rfl) rfl
theorem q775 : (Jvm.Cond.code ({ cls := "EchoPens", name := "saleOf", desc := "(LEchoPens$Farm;)I" } : Jvm.MethodName) prog_1_method_37_code (2 : Nat) (Option.some Jvm.ClassFile.FieldType.int)) ∈ lw_all := lw_g (lw_at lw_m3 211 rfl) rfl
theorem q776 : (Jvm.Cond.methodLink "EchoPens" (241 : Nat) ({ cls := "EchoPens", name := "sells", desc := "(LEchoPens$Farm;III)V" } : Jvm.MethodName)) ∈ lw_all := lw_g (lw_at lw_m3 212 rfl) rfl
theorem q777 : (Jvm.Cond.privateMethod ({ cls := "EchoPens", name := "sells", desc := "(LEchoPens$Farm;III)V" } : Jvm.MethodName)) ∈ lw_tbl := lw_at lw_m3 213 rfl
theorem q778 : (Jvm.Cond.instanceMethod ({ cls := "EchoPens", name := "sells", desc := "(LEchoPens$Farm;III)V" } : Jvm.MethodName)) ∈ lw_all := lw_g (lw_at lw_m3 214 rfl) rfl
theorem q779 : (Jvm.Cond.code ({ cls := "EchoPens", name := "sells", desc := "(LEchoPens$Farm;III)V" } : Jvm.MethodName) prog_1_method_36_code (6 : Nat) (Option.none : Option Jvm.ClassFile.FieldType)) ∈ lw_all := lw_g (lw_at lw_m3 215 rfl) rfl
theorem q781 : (Jvm.Cond.instanceMethod ({ cls := "EchoPens", name := "best", desc := "(II)I" } : Jvm.MethodName)) ∈ lw_all := lw_g (lw_at lw_m3 217 rfl) rfl
theorem q782 : (Jvm.Cond.selects "EchoPens" ({ cls := "EchoPens", name := "best", desc := "(II)I" } : Jvm.MethodName) ({ cls := "EchoPens", name := "best", desc := "(II)I" } : Jvm.MethodName)) ∈ lw_all := lw_g (lw_at lw_m3 218 rfl) rfl
theorem q783 : (Jvm.Cond.code ({ cls := "EchoPens", name := "best", desc := "(II)I" } : Jvm.MethodName) prog_1_method_42_code (3 : Nat) (Option.some Jvm.ClassFile.FieldType.int)) ∈ lw_all := lw_g (lw_at lw_m3 219 rfl) rfl
theorem q784 : (Jvm.Cond.constantLong "EchoPens" (279 : Nat) (8 : Int64)) ∈ lw_all := lw_g (lw_at lw_m3 220 rfl) rfl
theorem q785 : (Jvm.Cond.methodLink "EchoPens" (281 : Nat) ({ cls := "EchoPens", name := "allWays", desc := "(III)V" } : Jvm.MethodName)) ∈ lw_all := lw_g (lw_at lw_m3 221 rfl) rfl
theorem q786 : (Jvm.Cond.privateMethod ({ cls := "EchoPens", name := "allWays", desc := "(III)V" } : Jvm.MethodName)) ∈ lw_tbl := lw_at lw_m3 222 rfl
theorem q787 : (Jvm.Cond.instanceMethod ({ cls := "EchoPens", name := "allWays", desc := "(III)V" } : Jvm.MethodName)) ∈ lw_all := lw_g (lw_at lw_m3 223 rfl) rfl
theorem q788 : (Jvm.Cond.code ({ cls := "EchoPens", name := "allWays", desc := "(III)V" } : Jvm.MethodName) prog_1_method_41_code (5 : Nat) (Option.none : Option Jvm.ClassFile.FieldType)) ∈ lw_all := lw_g (lw_at lw_m3 224 rfl) rfl
theorem q789 : (Jvm.Cond.methodLink "EchoPens" (275 : Nat) ({ cls := "EchoPens", name := "ways", desc := "(IIII)V" } : Jvm.MethodName)) ∈ lw_all := lw_g (lw_at lw_m3 225 rfl) rfl
theorem q790 : (Jvm.Cond.privateMethod ({ cls := "EchoPens", name := "ways", desc := "(IIII)V" } : Jvm.MethodName)) ∈ lw_tbl := lw_at lw_m3 226 rfl
theorem q791 : (Jvm.Cond.instanceMethod ({ cls := "EchoPens", name := "ways", desc := "(IIII)V" } : Jvm.MethodName)) ∈ lw_all := lw_g (lw_at lw_m3 227 rfl) rfl
theorem q792 : (Jvm.Cond.code ({ cls := "EchoPens", name := "ways", desc := "(IIII)V" } : Jvm.MethodName) prog_1_method_40_code (6 : Nat) (Option.none : Option Jvm.ClassFile.FieldType)) ∈ lw_all := lw_g (lw_at lw_m3 228 rfl) rfl
theorem q793 : (Jvm.Cond.methodLink "EchoPens" (271 : Nat) ({ cls := "EchoPens", name := "weighs", desc := "(III)V" } : Jvm.MethodName)) ∈ lw_all := lw_g (lw_at lw_m3 229 rfl) rfl
theorem q794 : (Jvm.Cond.privateMethod ({ cls := "EchoPens", name := "weighs", desc := "(III)V" } : Jvm.MethodName)) ∈ lw_tbl := lw_at lw_m3 230 rfl
theorem q795 : (Jvm.Cond.instanceMethod ({ cls := "EchoPens", name := "weighs", desc := "(III)V" } : Jvm.MethodName)) ∈ lw_all := lw_g (lw_at lw_m3 231 rfl) rfl
theorem q796 : (Jvm.Cond.code ({ cls := "EchoPens", name := "weighs", desc := "(III)V" } : Jvm.MethodName) prog_1_method_39_code (5 : Nat) (Option.none : Option Jvm.ClassFile.FieldType)) ∈ lw_all := lw_g (lw_at lw_m3 232 rfl) rfl
theorem q797 : (Jvm.Cond.methodLink "EchoPens" (258 : Nat) ({ cls := "EchoPens", name := "isAsSeen", desc := "()Z" } : Jvm.MethodName)) ∈ lw_all := lw_g (lw_at lw_m3 233 rfl) rfl
theorem q798 : (Jvm.Cond.privateMethod ({ cls := "EchoPens", name := "isAsSeen", desc := "()Z" } : Jvm.MethodName)) ∈ lw_tbl := lw_at lw_m3 234 rfl
theorem q799 : (Jvm.Cond.instanceMethod ({ cls := "EchoPens", name := "isAsSeen", desc := "()Z" } : Jvm.MethodName)) ∈ lw_all := lw_g (lw_at lw_m3 235 rfl) rfl
theorem q800 : (Jvm.Cond.code ({ cls := "EchoPens", name := "isAsSeen", desc := "()Z" } : Jvm.MethodName) prog_1_method_52_code (3 : Nat) (Option.some Jvm.ClassFile.FieldType.boolean)) ∈ lw_all := lw_g (lw_at lw_m3 236 rfl) rfl
theorem q802 : (Jvm.Cond.instanceMethod ({ cls := "EchoPens", name := "near", desc := "(I)I" } : Jvm.MethodName)) ∈ lw_all := lw_g (lw_at lw_m3 238 rfl) rfl
theorem q803 : (Jvm.Cond.selects "EchoPens" ({ cls := "EchoPens", name := "near", desc := "(I)I" } : Jvm.MethodName) ({ cls := "EchoPens", name := "near", desc := "(I)I" } : Jvm.MethodName)) ∈ lw_all := lw_g (lw_at lw_m3 239 rfl) rfl
theorem q804 : (Jvm.Cond.code ({ cls := "EchoPens", name := "near", desc := "(I)I" } : Jvm.MethodName) prog_1_method_43_code (7 : Nat) (Option.some Jvm.ClassFile.FieldType.int)) ∈ lw_all := lw_g (lw_at lw_m4 0 rfl) rfl
theorem q805 : (Jvm.Cond.constant "EchoPens" (284 : Nat) (1000000 : Int32)) ∈ lw_all := lw_g (lw_at lw_m4 1 rfl) rfl
theorem q806 : (Jvm.Cond.methodLink "EchoPens" (285 : Nat) ({ cls := "java/lang/Math", name := "min", desc := "(II)I" } : Jvm.MethodName)) ∈ lw_all := lw_g (lw_at lw_m4 2 rfl) rfl
theorem q808 : (Jvm.Cond.instanceMethod ({ cls := "EchoPens", name := "keeps", desc := "(IIII)J" } : Jvm.MethodName)) ∈ lw_all := lw_g (lw_at lw_m4 4 rfl) rfl
theorem q809 : (Jvm.Cond.selects "EchoPens" ({ cls := "EchoPens", name := "keeps", desc := "(IIII)J" } : Jvm.MethodName) ({ cls := "EchoPens", name := "keeps", desc := "(IIII)J" } : Jvm.MethodName)) ∈ lw_all := lw_g (lw_at lw_m4 5 rfl) rfl
theorem q810 : (Jvm.Cond.code ({ cls := "EchoPens", name := "keeps", desc := "(IIII)J" } : Jvm.MethodName) prog_1_method_48_code (5 : Nat) (Option.some Jvm.ClassFile.FieldType.long)) ∈ lw_all := lw_g (lw_at lw_m4 6 rfl) rfl
theorem q811 : (Jvm.Cond.methodLink "EchoPens" (298 : Nat) ({ cls := "EchoPens", name := "areFoxes", desc := "(IIII)Z" } : Jvm.MethodName)) ∈ lw_all := lw_g (lw_at lw_m4 7 rfl) rfl
theorem q812 : (Jvm.Cond.privateMethod ({ cls := "EchoPens", name := "areFoxes", desc := "(IIII)Z" } : Jvm.MethodName)) ∈ lw_tbl := lw_at lw_m4 8 rfl
theorem q813 : (Jvm.Cond.instanceMethod ({ cls := "EchoPens", name := "areFoxes", desc := "(IIII)Z" } : Jvm.MethodName)) ∈ lw_all := lw_g (lw_at lw_m4 9 rfl) rfl
theorem q814 : (Jvm.Cond.code ({ cls := "EchoPens", name := "areFoxes", desc := "(IIII)Z" } : Jvm.MethodName) prog_1_method_47_code (5 : Nat) (Option.some Jvm.ClassFile.FieldType.boolean)) ∈ lw_all := lw_g (lw_at lw_m4 10 rfl) rfl
theorem q815 : (Jvm.Cond.constantLong "EchoPens" (296 : Nat) (6 : Int64)) ∈ lw_all := lw_g (lw_at lw_m4 11 rfl) rfl
theorem q816 : (Jvm.Cond.methodLink "EchoPens" (302 : Nat) ({ cls := "EchoPens", name := "byFox", desc := "(IIIZI)J" } : Jvm.MethodName)) ∈ lw_all := lw_g (lw_at lw_m4 12 rfl) rfl
theorem q817 : (Jvm.Cond.privateMethod ({ cls := "EchoPens", name := "byFox", desc := "(IIIZI)J" } : Jvm.MethodName)) ∈ lw_tbl := lw_at lw_m4 13 rfl
theorem q818 : (Jvm.Cond.instanceMethod ({ cls := "EchoPens", name := "byFox", desc := "(IIIZI)J" } : Jvm.MethodName)) ∈ lw_all := lw_g (lw_at lw_m4 14 rfl) rfl
theorem q819 : (Jvm.Cond.code ({ cls := "EchoPens", name := "byFox", desc := "(IIIZI)J" } : Jvm.MethodName) prog_1_method_46_code (15 : Nat) (Option.some Jvm.ClassFile.FieldType.long)) ∈ lw_all := lw_g (lw_at lw_m4 15 rfl) rfl
theorem q820 : (Jvm.Cond.methodLink "EchoPens" (292 : Nat) ({ cls := "EchoPens", name := "lowest", desc := "(JJI)J" } : Jvm.MethodName)) ∈ lw_all := lw_g (lw_at lw_m4 16 rfl) rfl
theorem q821 : (Jvm.Cond.static ({ cls := "EchoPens", name := "lowest", desc := "(JJI)J" } : Jvm.MethodName)) ∈ lw_all := lw_g (lw_at lw_m4 17 rfl) rfl
theorem q822 : (Jvm.Cond.code ({ cls := "EchoPens", name := "lowest", desc := "(JJI)J" } : Jvm.MethodName) prog_1_method_45_code (5 : Nat) (Option.some Jvm.ClassFile.FieldType.long)) ∈ lw_all := lw_g (lw_at lw_m4 18 rfl) rfl
theorem q823 : (Jvm.Cond.methodLink "EchoPens" (288 : Nat) ({ cls := "EchoPens", name := "divisor", desc := "(JJ)J" } : Jvm.MethodName)) ∈ lw_all := lw_g (lw_at lw_m4 19 rfl) rfl
theorem q824 : (Jvm.Cond.static ({ cls := "EchoPens", name := "divisor", desc := "(JJ)J" } : Jvm.MethodName)) ∈ lw_all := lw_g (lw_at lw_m4 20 rfl) rfl
theorem q825 : (Jvm.Cond.code ({ cls := "EchoPens", name := "divisor", desc := "(JJ)J" } : Jvm.MethodName) prog_1_method_44_code (4 : Nat) (Option.some Jvm.ClassFile.FieldType.long)) ∈ lw_all := lw_g (lw_at lw_m4 21 rfl) rfl
theorem q826 : (Jvm.Cond.constantLong "EchoPens" (306 : Nat) (-1 : Int64)) ∈ lw_all := lw_g (lw_at lw_m4 22 rfl) rfl
theorem q828 : (Jvm.Cond.instanceMethod ({ cls := "EchoPens", name := "mean", desc := "(IIII)J" } : Jvm.MethodName)) ∈ lw_all := lw_g (lw_at lw_m4 24 rfl) rfl
theorem q829 : (Jvm.Cond.selects "EchoPens" ({ cls := "EchoPens", name := "mean", desc := "(IIII)J" } : Jvm.MethodName) ({ cls := "EchoPens", name := "mean", desc := "(IIII)J" } : Jvm.MethodName)) ∈ lw_all := lw_g (lw_at lw_m4 25 rfl) rfl
theorem q830 : (Jvm.Cond.code ({ cls := "EchoPens", name := "mean", desc := "(IIII)J" } : Jvm.MethodName) prog_1_method_49_code (5 : Nat) (Option.some Jvm.ClassFile.FieldType.long)) ∈ lw_all := lw_g (lw_at lw_m4 26 rfl) rfl
theorem q832 : (Jvm.Cond.instanceMethod ({ cls := "EchoPens", name := "see", desc := "(III)I" } : Jvm.MethodName)) ∈ lw_all := lw_g (lw_at lw_m4 28 rfl) rfl
theorem q833 : (Jvm.Cond.selects "EchoPens" ({ cls := "EchoPens", name := "see", desc := "(III)I" } : Jvm.MethodName) ({ cls := "EchoPens", name := "see", desc := "(III)I" } : Jvm.MethodName)) ∈ lw_all := lw_g (lw_at lw_m4 29 rfl) rfl
theorem q834 : (Jvm.Cond.code ({ cls := "EchoPens", name := "see", desc := "(III)I" } : Jvm.MethodName) prog_1_method_50_code (4 : Nat) (Option.some Jvm.ClassFile.FieldType.int)) ∈ lw_all := lw_g (lw_at lw_m4 30 rfl) rfl
theorem q835 : (Jvm.Cond.constantLong "EchoPens" (308 : Nat) (5 : Int64)) ∈ lw_all := lw_g (lw_at lw_m4 31 rfl) rfl
theorem q837 : (Jvm.Cond.instanceMethod ({ cls := "EchoPens", name := "forget", desc := "(I)I" } : Jvm.MethodName)) ∈ lw_all := lw_g (lw_at lw_m4 33 rfl) rfl
theorem q838 : (Jvm.Cond.selects "EchoPens" ({ cls := "EchoPens", name := "forget", desc := "(I)I" } : Jvm.MethodName) ({ cls := "EchoPens", name := "forget", desc := "(I)I" } : Jvm.MethodName)) ∈ lw_all := lw_g (lw_at lw_m4 34 rfl) rfl
theorem q839 : (Jvm.Cond.code ({ cls := "EchoPens", name := "forget", desc := "(I)I" } : Jvm.MethodName) prog_1_method_51_code (3 : Nat) (Option.some Jvm.ClassFile.FieldType.int)) ∈ lw_all := lw_g (lw_at lw_m4 35 rfl) rfl
theorem q841 : (Jvm.Cond.instanceMethod ({ cls := "EchoPens", name := "fits", desc := "(I)I" } : Jvm.MethodName)) ∈ lw_all := lw_g (lw_at lw_m4 37 rfl) rfl
theorem q842 : (Jvm.Cond.selects "EchoPens" ({ cls := "EchoPens", name := "fits", desc := "(I)I" } : Jvm.MethodName) ({ cls := "EchoPens", name := "fits", desc := "(I)I" } : Jvm.MethodName)) ∈ lw_all := lw_g (lw_at lw_m4 38 rfl) rfl
theorem q843 : (Jvm.Cond.code ({ cls := "EchoPens", name := "fits", desc := "(I)I" } : Jvm.MethodName) prog_1_method_53_code (2 : Nat) (Option.some Jvm.ClassFile.FieldType.int)) ∈ lw_all := lw_g (lw_at lw_m4 39 rfl) rfl
theorem q845 : (Jvm.Cond.instanceMethod ({ cls := "EchoPens", name := "listen", desc := "(II)I" } : Jvm.MethodName)) ∈ lw_all := lw_g (lw_at lw_m4 41 rfl) rfl
theorem q846 : (Jvm.Cond.selects "EchoPens" ({ cls := "EchoPens", name := "listen", desc := "(II)I" } : Jvm.MethodName) ({ cls := "EchoPens", name := "listen", desc := "(II)I" } : Jvm.MethodName)) ∈ lw_all := lw_g (lw_at lw_m4 42 rfl) rfl
theorem q847 : (Jvm.Cond.code ({ cls := "EchoPens", name := "listen", desc := "(II)I" } : Jvm.MethodName) prog_1_method_54_code (8 : Nat) (Option.some Jvm.ClassFile.FieldType.int)) ∈ lw_all := lw_g (lw_at lw_m4 43 rfl) rfl
theorem q849 : (Jvm.Cond.instanceMethod ({ cls := "EchoPens", name := "drift", desc := "(III)I" } : Jvm.MethodName)) ∈ lw_all := lw_g (lw_at lw_m4 45 rfl) rfl
theorem q850 : (Jvm.Cond.selects "EchoPens" ({ cls := "EchoPens", name := "drift", desc := "(III)I" } : Jvm.MethodName) ({ cls := "EchoPens", name := "drift", desc := "(III)I" } : Jvm.MethodName)) ∈ lw_all := lw_g (lw_at lw_m4 46 rfl) rfl
theorem q851 : (Jvm.Cond.code ({ cls := "EchoPens", name := "drift", desc := "(III)I" } : Jvm.MethodName) prog_1_method_55_code (7 : Nat) (Option.some Jvm.ClassFile.FieldType.int)) ∈ lw_all := lw_g (lw_at lw_m4 47 rfl) rfl
theorem q852 : (Jvm.Cond.constant "EchoPens" (314 : Nat) (1103515245 : Int32)) ∈ lw_all := lw_g (lw_at lw_m4 48 rfl) rfl
theorem q853 : (Jvm.Cond.methodLink "EchoPens" (315 : Nat) ({ cls := "EchoPens", name := "sum", desc := "(LEchoPens$Farm;Z)I" } : Jvm.MethodName)) ∈ lw_all := lw_g (lw_at lw_m4 49 rfl) rfl
theorem q854 : (Jvm.Cond.static ({ cls := "EchoPens", name := "sum", desc := "(LEchoPens$Farm;Z)I" } : Jvm.MethodName)) ∈ lw_all := lw_g (lw_at lw_m4 50 rfl) rfl
theorem q855 : (Jvm.Cond.code ({ cls := "EchoPens", name := "sum", desc := "(LEchoPens$Farm;Z)I" } : Jvm.MethodName) prog_1_method_56_code (4 : Nat) (Option.some Jvm.ClassFile.FieldType.int)) ∈ lw_all := lw_g (lw_at lw_m4 51 rfl) rfl
theorem q857 : (Jvm.Cond.instanceMethod ({ cls := "EchoPens", name := "keep", desc := "(I)I" } : Jvm.MethodName)) ∈ lw_all := lw_g (lw_at lw_m4 53 rfl) rfl
theorem q858 : (Jvm.Cond.selects "EchoPens" ({ cls := "EchoPens", name := "keep", desc := "(I)I" } : Jvm.MethodName) ({ cls := "EchoPens", name := "keep", desc := "(I)I" } : Jvm.MethodName)) ∈ lw_all := lw_g (lw_at lw_m4 54 rfl) rfl
theorem q859 : (Jvm.Cond.code ({ cls := "EchoPens", name := "keep", desc := "(I)I" } : Jvm.MethodName) prog_1_method_58_code (3 : Nat) (Option.some Jvm.ClassFile.FieldType.int)) ∈ lw_all := lw_g (lw_at lw_m4 55 rfl) rfl
theorem q860 : (Jvm.Cond.methodLink "EchoPens" (319 : Nat) ({ cls := "EchoPens$Image", name := "takes", desc := "()V" } : Jvm.MethodName)) ∈ lw_all := lw_g (lw_at lw_m4 56 rfl) rfl
theorem q866 : (Jvm.Cond.static ({ cls := "EchoPens", name := "copies", desc := "([[I[[I)V" } : Jvm.MethodName)) ∈ lw_all := lw_g (lw_at lw_m4 62 rfl) rfl
theorem q867 : (Jvm.Cond.code ({ cls := "EchoPens", name := "copies", desc := "([[I[[I)V" } : Jvm.MethodName) prog_1_method_57_code (3 : Nat) (Option.none : Option Jvm.ClassFile.FieldType)) ∈ lw_all := lw_g (lw_at lw_m4 63 rfl) rfl
theorem q869 : (Jvm.Cond.instanceMethod ({ cls := "EchoPens", name := "back", desc := "(I)I" } : Jvm.MethodName)) ∈ lw_all := lw_g (lw_at lw_m4 65 rfl) rfl
theorem q870 : (Jvm.Cond.selects "EchoPens" ({ cls := "EchoPens", name := "back", desc := "(I)I" } : Jvm.MethodName) ({ cls := "EchoPens", name := "back", desc := "(I)I" } : Jvm.MethodName)) ∈ lw_all := lw_g (lw_at lw_m4 66 rfl) rfl
theorem q871 : (Jvm.Cond.code ({ cls := "EchoPens", name := "back", desc := "(I)I" } : Jvm.MethodName) prog_1_method_59_code (2 : Nat) (Option.some Jvm.ClassFile.FieldType.int)) ∈ lw_all := lw_g (lw_at lw_m4 67 rfl) rfl
theorem q872 : (Jvm.Cond.methodLink "EchoPens" (321 : Nat) ({ cls := "EchoPens$Image", name := "gives", desc := "()V" } : Jvm.MethodName)) ∈ lw_all := lw_g (lw_at lw_m4 68 rfl) rfl
theorem q878 : (Jvm.Cond.instanceMethod ({ cls := "EchoPens", name := "<init>", desc := "()V" } : Jvm.MethodName)) ∈ lw_all := lw_g (lw_at lw_m4 74 rfl) rfl
theorem q879 : (Jvm.Cond.code ({ cls := "EchoPens", name := "<init>", desc := "()V" } : Jvm.MethodName) prog_1_method_60_code (1 : Nat) (Option.none : Option Jvm.ClassFile.FieldType)) ∈ lw_all := lw_g (lw_at lw_m4 75 rfl) rfl
theorem q880 : (Jvm.Cond.methodLink "EchoPens" (324 : Nat) ({ cls := "java/lang/Object", name := "<init>", desc := "()V" } : Jvm.MethodName)) ∈ lw_all := lw_g (lw_at lw_m4 76 rfl) rfl
theorem q881 : (Jvm.Cond.classLink "EchoPens" (41 : Nat) "EchoPens$Farm") ∈ lw_all := lw_g (lw_at lw_m4 77 rfl) rfl
theorem q882 : (Jvm.Cond.methodLinkNest "EchoPens" (328 : Nat) ({ cls := "EchoPens$Farm", name := "<init>", desc := "()V" } : Jvm.MethodName) "EchoPens") ∈ lw_tbl := lw_at lw_m4 78 rfl
theorem q883 : (Jvm.Cond.classLink "EchoPens" (148 : Nat) "EchoPens$Order") ∈ lw_all := lw_g (lw_at lw_m4 79 rfl) rfl
theorem q884 : (Jvm.Cond.classLink "EchoPens" (329 : Nat) "[[I") ∈ lw_all := lw_g (lw_at lw_m4 80 rfl) rfl
theorem q886 : (Jvm.Cond.classLink "EchoPens" (67 : Nat) "EchoPens$Image") ∈ lw_all := lw_g (lw_at lw_m4 82 rfl) rfl
theorem q889 : (Jvm.Cond.methodLinkNest "EchoPens" (330 : Nat) ({ cls := "EchoPens$Image", name := "<init>", desc := "(LEchoPens;)V" } : Jvm.MethodName) "EchoPens") ∈ lw_tbl := lw_at lw_m4 85 rfl
theorem q899 : (Jvm.Cond.fieldLinkNest "EchoPens" (66 : Nat) "EchoPens$Image" "isKept" "Z" "EchoPens") ∈ lw_tbl := lw_at lw_m4 95 rfl
theorem q912 : (Jvm.Cond.classLink "EchoPens" (336 : Nat) "EchoPens$Sheet") ∈ lw_all := lw_g (lw_at lw_m4 108 rfl) rfl
theorem q915 : (Jvm.Cond.methodLinkNest "EchoPens" (338 : Nat) ({ cls := "EchoPens$Sheet", name := "<init>", desc := "()V" } : Jvm.MethodName) "EchoPens") ∈ lw_tbl := lw_at lw_m4 111 rfl
theorem q919 : (Jvm.Cond.fieldLinkNest "EchoPens" (347 : Nat) "EchoPens$Sheet" "row" "Ljava/lang/Object;" "EchoPens") ∈ lw_tbl := lw_at lw_m4 115 rfl
theorem q920 : (Jvm.Cond.fieldLinkNest "EchoPens" (350 : Nat) "EchoPens$Sheet" "size" "I" "EchoPens") ∈ lw_tbl := lw_at lw_m4 116 rfl
theorem q926 : (Jvm.Cond.fieldLink "EchoPens" (13 : Nat) "EchoPens" "tape" "[B") ∈ lw_all := lw_g (lw_at lw_m4 122 rfl) rfl
theorem q927 : (Jvm.Cond.fieldLink "EchoPens" (9 : Nat) "EchoPens" "taped" "I") ∈ lw_all := lw_g (lw_at lw_m4 123 rfl) rfl
theorem q928 : (Jvm.Cond.fieldLink "EchoPens" (72 : Nat) "EchoPens" "fault" "I") ∈ lw_all := lw_g (lw_at lw_m4 124 rfl) rfl
theorem q930 : (Jvm.Cond.fieldLink "EchoPens" (33 : Nat) "EchoPens" "now" "LEchoPens$Farm;") ∈ lw_all := lw_g (lw_at lw_m4 126 rfl) rfl
theorem q931 : (Jvm.Cond.fieldLink "EchoPens" (54 : Nat) "EchoPens" "penMany" "I") ∈ lw_all := lw_g (lw_at lw_m4 127 rfl) rfl
theorem q932 : (Jvm.Cond.fieldLink "EchoPens" (50 : Nat) "EchoPens" "orders" "[LEchoPens$Order;") ∈ lw_all := lw_g (lw_at lw_m4 128 rfl) rfl
theorem q933 : (Jvm.Cond.fieldLink "EchoPens" (58 : Nat) "EchoPens" "orderMany" "I") ∈ lw_all := lw_g (lw_at lw_m4 129 rfl) rfl
theorem q934 : (Jvm.Cond.fieldLink "EchoPens" (206 : Nat) "EchoPens" "work" "LEchoPens$Farm;") ∈ lw_all := lw_g (lw_at lw_m4 130 rfl) rfl
theorem q935 : (Jvm.Cond.fieldLink "EchoPens" (235 : Nat) "EchoPens" "row" "[I") ∈ lw_all := lw_g (lw_at lw_m4 131 rfl) rfl
theorem q936 : (Jvm.Cond.fieldLink "EchoPens" (238 : Nat) "EchoPens" "bestRow" "[I") ∈ lw_all := lw_g (lw_at lw_m4 132 rfl) rfl
theorem q937 : (Jvm.Cond.fieldLink "EchoPens" (232 : Nat) "EchoPens" "mostEarned" "I") ∈ lw_all := lw_g (lw_at lw_m4 133 rfl) rfl
theorem q938 : (Jvm.Cond.fieldLink "EchoPens" (249 : Nat) "EchoPens" "home" "LEchoPens$Farm;") ∈ lw_all := lw_g (lw_at lw_m4 134 rfl) rfl
theorem q939 : (Jvm.Cond.fieldLink "EchoPens" (255 : Nat) "EchoPens" "bestPens" "[I") ∈ lw_all := lw_g (lw_at lw_m4 135 rfl) rfl
theorem q940 : (Jvm.Cond.fieldLink "EchoPens" (252 : Nat) "EchoPens" "mostSale" "I") ∈ lw_all := lw_g (lw_at lw_m4 136 rfl) rfl
theorem q941 : (Jvm.Cond.fieldLink "EchoPens" (262 : Nat) "EchoPens" "wayMany" "I") ∈ lw_all := lw_g (lw_at lw_m4 137 rfl) rfl
theorem q942 : (Jvm.Cond.fieldLink "EchoPens" (265 : Nat) "EchoPens" "possible" "[I") ∈ lw_all := lw_g (lw_at lw_m4 138 rfl) rfl
theorem q943 : (Jvm.Cond.fieldLink "EchoPens" (268 : Nat) "EchoPens" "parted" "[I") ∈ lw_all := lw_g (lw_at lw_m4 139 rfl) rfl
theorem q945 : (Jvm.Cond.fieldLink "EchoPens" (310 : Nat) "EchoPens" "seen" "[[I") ∈ lw_all := lw_g (lw_at lw_m4 141 rfl) rfl
theorem q947 : (Jvm.Cond.fieldLink "EchoPens" (59 : Nat) "EchoPens" "seenMany" "I") ∈ lw_all := lw_g (lw_at lw_m4 143 rfl) rfl
theorem q948 : (Jvm.Cond.fieldLink "EchoPens" (62 : Nat) "EchoPens" "images" "[LEchoPens$Image;") ∈ lw_all := lw_g (lw_at lw_m4 144 rfl) rfl
theorem q949 : (Jvm.Cond.fieldLink "EchoPens" (333 : Nat) "EchoPens" "aside" "LEchoPens$Farm;") ∈ lw_all := lw_g (lw_at lw_m4 145 rfl) rfl
theorem q950 : (Jvm.Cond.fieldLink "EchoPens" (339 : Nat) "EchoPens" "sheets" "[LEchoPens$Sheet;") ∈ lw_all := lw_g (lw_at lw_m4 146 rfl) rfl
theorem q951 : (Jvm.Cond.fieldLink "EchoPens" (381 : Nat) "EchoPens" "torn" "I") ∈ lw_all := lw_g (lw_at lw_m4 147 rfl) rfl
theorem q952 : (Jvm.Cond.fieldLink "EchoPens" (363 : Nat) "EchoPens" "cameMany" "I") ∈ lw_all := lw_g (lw_at lw_m4 148 rfl) rfl
theorem q953 : (Jvm.Cond.fieldLink "EchoPens" (366 : Nat) "EchoPens" "refused" "I") ∈ lw_all := lw_g (lw_at lw_m4 149 rfl) rfl
theorem q954 : (Jvm.Cond.laysFinal "EchoPens" "EchoPens" "tape" "[B") ∈ lw_all := lw_g (lw_at lw_m4 150 rfl) rfl
theorem q955 : (Jvm.Cond.soleField "EchoPens" "tape") ∈ lw_all := lw_g (lw_at lw_m4 151 rfl) rfl
theorem q956 : (Jvm.Cond.lays "EchoPens" "EchoPens" "taped" "I") ∈ lw_all := lw_g (lw_at lw_m4 152 rfl) rfl
theorem q957 : (Jvm.Cond.soleField "EchoPens" "taped") ∈ lw_all := lw_g (lw_at lw_m4 153 rfl) rfl
theorem q958 : (Jvm.Cond.lays "EchoPens" "EchoPens" "fault" "I") ∈ lw_all := lw_g (lw_at lw_m4 154 rfl) rfl
theorem q959 : (Jvm.Cond.soleField "EchoPens" "fault") ∈ lw_all := lw_g (lw_at lw_m4 155 rfl) rfl
theorem q960 : (Jvm.Cond.laysFinal "EchoPens" "EchoPens" "now" "LEchoPens$Farm;") ∈ lw_all := lw_g (lw_at lw_m4 156 rfl) rfl
theorem q961 : (Jvm.Cond.soleField "EchoPens" "now") ∈ lw_all := lw_g (lw_at lw_m4 157 rfl) rfl
theorem q962 : (Jvm.Cond.lays "EchoPens" "EchoPens" "penMany" "I") ∈ lw_all := lw_g (lw_at lw_m4 158 rfl) rfl
theorem q963 : (Jvm.Cond.soleField "EchoPens" "penMany") ∈ lw_all := lw_g (lw_at lw_m4 159 rfl) rfl
theorem q964 : (Jvm.Cond.lays "EchoPens" "EchoPens" "orders" "[LEchoPens$Order;") ∈ lw_all := lw_g (lw_at lw_m4 160 rfl) rfl
theorem q965 : (Jvm.Cond.soleField "EchoPens" "orders") ∈ lw_all := lw_g (lw_at lw_m4 161 rfl) rfl
theorem q966 : (Jvm.Cond.lays "EchoPens" "EchoPens" "orderMany" "I") ∈ lw_all := lw_g (lw_at lw_m4 162 rfl) rfl
theorem q967 : (Jvm.Cond.soleField "EchoPens" "orderMany") ∈ lw_all := lw_g (lw_at lw_m4 163 rfl) rfl
theorem q968 : (Jvm.Cond.laysFinal "EchoPens" "EchoPens" "work" "LEchoPens$Farm;") ∈ lw_all := lw_g (lw_at lw_m4 164 rfl) rfl
theorem q969 : (Jvm.Cond.soleField "EchoPens" "work") ∈ lw_all := lw_g (lw_at lw_m4 165 rfl) rfl
theorem q970 : (Jvm.Cond.laysFinal "EchoPens" "EchoPens" "row" "[I") ∈ lw_all := lw_g (lw_at lw_m4 166 rfl) rfl
theorem q971 : (Jvm.Cond.soleField "EchoPens" "row") ∈ lw_all := lw_g (lw_at lw_m4 167 rfl) rfl
theorem q972 : (Jvm.Cond.laysFinal "EchoPens" "EchoPens" "bestRow" "[I") ∈ lw_all := lw_g (lw_at lw_m4 168 rfl) rfl
theorem q973 : (Jvm.Cond.soleField "EchoPens" "bestRow") ∈ lw_all := lw_g (lw_at lw_m4 169 rfl) rfl
theorem q974 : (Jvm.Cond.lays "EchoPens" "EchoPens" "mostEarned" "I") ∈ lw_all := lw_g (lw_at lw_m4 170 rfl) rfl
theorem q975 : (Jvm.Cond.soleField "EchoPens" "mostEarned") ∈ lw_all := lw_g (lw_at lw_m4 171 rfl) rfl
theorem q976 : (Jvm.Cond.laysFinal "EchoPens" "EchoPens" "home" "LEchoPens$Farm;") ∈ lw_all := lw_g (lw_at lw_m4 172 rfl) rfl
theorem q977 : (Jvm.Cond.soleField "EchoPens" "home") ∈ lw_all := lw_g (lw_at lw_m4 173 rfl) rfl
theorem q978 : (Jvm.Cond.laysFinal "EchoPens" "EchoPens" "bestPens" "[I") ∈ lw_all := lw_g (lw_at lw_m4 174 rfl) rfl
theorem q979 : (Jvm.Cond.soleField "EchoPens" "bestPens") ∈ lw_all := lw_g (lw_at lw_m4 175 rfl) rfl
theorem q980 : (Jvm.Cond.lays "EchoPens" "EchoPens" "mostSale" "I") ∈ lw_all := lw_g (lw_at lw_m4 176 rfl) rfl
theorem q981 : (Jvm.Cond.soleField "EchoPens" "mostSale") ∈ lw_all := lw_g (lw_at lw_m4 177 rfl) rfl
theorem q982 : (Jvm.Cond.lays "EchoPens" "EchoPens" "wayMany" "I") ∈ lw_all := lw_g (lw_at lw_m4 178 rfl) rfl
theorem q983 : (Jvm.Cond.soleField "EchoPens" "wayMany") ∈ lw_all := lw_g (lw_at lw_m4 179 rfl) rfl
theorem q984 : (Jvm.Cond.laysFinal "EchoPens" "EchoPens" "possible" "[I") ∈ lw_all := lw_g (lw_at lw_m4 180 rfl) rfl
theorem q985 : (Jvm.Cond.soleField "EchoPens" "possible") ∈ lw_all := lw_g (lw_at lw_m4 181 rfl) rfl
theorem q986 : (Jvm.Cond.laysFinal "EchoPens" "EchoPens" "parted" "[I") ∈ lw_all := lw_g (lw_at lw_m4 182 rfl) rfl
theorem q987 : (Jvm.Cond.soleField "EchoPens" "parted") ∈ lw_all := lw_g (lw_at lw_m4 183 rfl) rfl
theorem q988 : (Jvm.Cond.laysFinal "EchoPens" "EchoPens" "seen" "[[I") ∈ lw_all := lw_g (lw_at lw_m4 184 rfl) rfl
theorem q989 : (Jvm.Cond.soleField "EchoPens" "seen") ∈ lw_all := lw_g (lw_at lw_m4 185 rfl) rfl
theorem q990 : (Jvm.Cond.lays "EchoPens" "EchoPens" "seenMany" "I") ∈ lw_all := lw_g (lw_at lw_m4 186 rfl) rfl
theorem q991 : (Jvm.Cond.soleField "EchoPens" "seenMany") ∈ lw_all := lw_g (lw_at lw_m4 187 rfl) rfl
theorem q992 : (Jvm.Cond.laysFinal "EchoPens" "EchoPens" "images" "[LEchoPens$Image;") ∈ lw_all := lw_g (lw_at lw_m4 188 rfl) rfl
theorem q993 : (Jvm.Cond.soleField "EchoPens" "images") ∈ lw_all := lw_g (lw_at lw_m4 189 rfl) rfl
theorem q994 : (Jvm.Cond.laysFinal "EchoPens" "EchoPens" "aside" "LEchoPens$Farm;") ∈ lw_all := lw_g (lw_at lw_m4 190 rfl) rfl
theorem q995 : (Jvm.Cond.soleField "EchoPens" "aside") ∈ lw_all := lw_g (lw_at lw_m4 191 rfl) rfl
theorem q996 : (Jvm.Cond.laysFinal "EchoPens" "EchoPens" "sheets" "[LEchoPens$Sheet;") ∈ lw_all := lw_g (lw_at lw_m4 192 rfl) rfl
theorem q997 : (Jvm.Cond.soleField "EchoPens" "sheets") ∈ lw_all := lw_g (lw_at lw_m4 193 rfl) rfl
theorem q998 : (Jvm.Cond.lays "EchoPens" "EchoPens" "torn" "I") ∈ lw_all := lw_g (lw_at lw_m4 194 rfl) rfl
theorem q999 : (Jvm.Cond.soleField "EchoPens" "torn") ∈ lw_all := lw_g (lw_at lw_m4 195 rfl) rfl
theorem q1000 : (Jvm.Cond.lays "EchoPens" "EchoPens" "cameMany" "I") ∈ lw_all := lw_g (lw_at lw_m4 196 rfl) rfl
theorem q1001 : (Jvm.Cond.soleField "EchoPens" "cameMany") ∈ lw_all := lw_g (lw_at lw_m4 197 rfl) rfl
theorem q1002 : (Jvm.Cond.lays "EchoPens" "EchoPens" "refused" "I") ∈ lw_all := lw_g (lw_at lw_m4 198 rfl) rfl
theorem q1003 : (Jvm.Cond.soleField "EchoPens" "refused") ∈ lw_all := lw_g (lw_at lw_m4 199 rfl) rfl
theorem q1004 : (Jvm.Cond.superclass "EchoPens" "java/lang/Object") ∈ lw_all := lw_g (lw_at lw_m4 200 rfl) rfl
theorem q1006 : (Jvm.Cond.instanceMethod ({ cls := "EchoPens", name := "sheet", desc := "(III)I" } : Jvm.MethodName)) ∈ lw_all := lw_g (lw_at lw_m4 202 rfl) rfl
theorem q1007 : (Jvm.Cond.selects "EchoPens" ({ cls := "EchoPens", name := "sheet", desc := "(III)I" } : Jvm.MethodName) ({ cls := "EchoPens", name := "sheet", desc := "(III)I" } : Jvm.MethodName)) ∈ lw_all := lw_g (lw_at lw_m4 203 rfl) rfl
theorem q1008 : (Jvm.Cond.codeWith ({ cls := "EchoPens", name := "sheet", desc := "(III)I" } : Jvm.MethodName) prog_1_method_62_code (5 : Nat) (Option.some Jvm.ClassFile.FieldType.int) [((32 : Nat), (57 : Nat), (58 : Nat), (353 : Nat))]) ∈ lw_all := lw_g (lw_at lw_m4 204 rfl) rfl
theorem q1009 : (Jvm.Cond.classLink "EchoPens" (353 : Nat) "java/lang/NegativeArraySizeException") ∈ lw_all := lw_g (lw_at lw_m4 205 rfl) rfl
theorem q1036 : (Jvm.Cond.methodLink "EchoPens" (343 : Nat) ({ cls := "EchoPens", name := "newRow", desc := "(II)Ljava/lang/Object;" } : Jvm.MethodName)) ∈ lw_all := lw_g (lw_at lw_m4 232 rfl) rfl
theorem q1037 : (Jvm.Cond.static ({ cls := "EchoPens", name := "newRow", desc := "(II)Ljava/lang/Object;" } : Jvm.MethodName)) ∈ lw_all := lw_g (lw_at lw_m4 233 rfl) rfl
theorem q1038 : (Jvm.Cond.code ({ cls := "EchoPens", name := "newRow", desc := "(II)Ljava/lang/Object;" } : Jvm.MethodName) prog_1_method_61_code (2 : Nat) (Option.some (Jvm.ClassFile.FieldType.object "java/lang/Object"))) ∈ lw_all := lw_g (lw_at lw_m4 234 rfl) rfl
theorem q1041 : (Jvm.Cond.instanceMethod ({ cls := "EchoPens", name := "lay", desc := "(III)I" } : Jvm.MethodName)) ∈ lw_all := lw_g (lw_at lw_m4 237 rfl) rfl
theorem q1042 : (Jvm.Cond.selects "EchoPens" ({ cls := "EchoPens", name := "lay", desc := "(III)I" } : Jvm.MethodName) ({ cls := "EchoPens", name := "lay", desc := "(III)I" } : Jvm.MethodName)) ∈ lw_all := lw_g (lw_at lw_m4 238 rfl) rfl
theorem q1043 : (Jvm.Cond.codeWith ({ cls := "EchoPens", name := "lay", desc := "(III)I" } : Jvm.MethodName) prog_1_method_63_code (6 : Nat) (Option.some Jvm.ClassFile.FieldType.int) [((25 : Nat), (74 : Nat), (75 : Nat), (359 : Nat)), ((25 : Nat), (74 : Nat), (80 : Nat), (361 : Nat))]) ∈ lw_all := lw_g (lw_at lw_m4 239 rfl) rfl
theorem q1044 : (Jvm.Cond.classLink "EchoPens" (359 : Nat) "java/lang/NullPointerException") ∈ lw_all := lw_g (lw_at lw_m5 0 rfl) rfl
theorem q1069 : (Jvm.Cond.classLink "EchoPens" (361 : Nat) "java/lang/ArrayIndexOutOfBoundsException") ∈ lw_all := lw_g (lw_at lw_m5 25 rfl) rfl
theorem q1088 : (Jvm.Cond.classLink "EchoPens" (355 : Nat) "[B") ∈ lw_all := lw_g (lw_at lw_m5 44 rfl) rfl
theorem q1089 : (Jvm.Cond.classLink "EchoPens" (356 : Nat) "[S") ∈ lw_all := lw_g (lw_at lw_m5 45 rfl) rfl
theorem q1090 : (Jvm.Cond.classLink "EchoPens" (358 : Nat) "[I") ∈ lw_all := lw_g (lw_at lw_m5 46 rfl) rfl
theorem q1092 : (Jvm.Cond.instanceMethod ({ cls := "EchoPens", name := "read", desc := "(IIII)I" } : Jvm.MethodName)) ∈ lw_all := lw_g (lw_at lw_m5 48 rfl) rfl
theorem q1093 : (Jvm.Cond.selects "EchoPens" ({ cls := "EchoPens", name := "read", desc := "(IIII)I" } : Jvm.MethodName) ({ cls := "EchoPens", name := "read", desc := "(IIII)I" } : Jvm.MethodName)) ∈ lw_all := lw_g (lw_at lw_m5 49 rfl) rfl
theorem q1094 : (Jvm.Cond.code ({ cls := "EchoPens", name := "read", desc := "(IIII)I" } : Jvm.MethodName) prog_1_method_66_code (6 : Nat) (Option.some Jvm.ClassFile.FieldType.int)) ∈ lw_all := lw_g (lw_at lw_m5 50 rfl) rfl
theorem q1095 : (Jvm.Cond.constantLong "EchoPens" (375 : Nat) (20 : Int64)) ∈ lw_all := lw_g (lw_at lw_m5 51 rfl) rfl
theorem q1096 : (Jvm.Cond.methodLink "EchoPens" (377 : Nat) ({ cls := "EchoPens", name := "takesIn", desc := "(Ljava/lang/Object;III)I" } : Jvm.MethodName)) ∈ lw_all := lw_g (lw_at lw_m5 52 rfl) rfl
theorem q1097 : (Jvm.Cond.privateMethod ({ cls := "EchoPens", name := "takesIn", desc := "(Ljava/lang/Object;III)I" } : Jvm.MethodName)) ∈ lw_tbl := lw_at lw_m5 53 rfl
theorem q1098 : (Jvm.Cond.instanceMethod ({ cls := "EchoPens", name := "takesIn", desc := "(Ljava/lang/Object;III)I" } : Jvm.MethodName)) ∈ lw_all := lw_g (lw_at lw_m5 54 rfl) rfl
theorem q1099 : (Jvm.Cond.codeWith ({ cls := "EchoPens", name := "takesIn", desc := "(Ljava/lang/Object;III)I" } : Jvm.MethodName) prog_1_method_65_code (8 : Nat) (Option.some Jvm.ClassFile.FieldType.int) [((10 : Nat), (107 : Nat), (108 : Nat), (359 : Nat)), ((10 : Nat), (107 : Nat), (112 : Nat), (373 : Nat)), ((10 : Nat), (107 : Nat), (116 : Nat), (361 : Nat))]) ∈ lw_all := lw_g (lw_at lw_m5 55 rfl) rfl
theorem q1100 : (Jvm.Cond.classLink "EchoPens" (373 : Nat) "java/lang/ClassCastException") ∈ lw_all := lw_g (lw_at lw_m5 56 rfl) rfl
theorem q1114 : (Jvm.Cond.methodLink "EchoPens" (369 : Nat) ({ cls := "EchoPens", name := "cell", desc := "(Ljava/lang/Object;II)I" } : Jvm.MethodName)) ∈ lw_all := lw_g (lw_at lw_m5 70 rfl) rfl
theorem q1115 : (Jvm.Cond.static ({ cls := "EchoPens", name := "cell", desc := "(Ljava/lang/Object;II)I" } : Jvm.MethodName)) ∈ lw_all := lw_g (lw_at lw_m5 71 rfl) rfl
theorem q1116 : (Jvm.Cond.code ({ cls := "EchoPens", name := "cell", desc := "(Ljava/lang/Object;II)I" } : Jvm.MethodName) prog_1_method_64_code (3 : Nat) (Option.some Jvm.ClassFile.FieldType.int)) ∈ lw_all := lw_g (lw_at lw_m5 72 rfl) rfl
theorem q1118 : (Jvm.Cond.instanceMethod ({ cls := "EchoPens", name := "torn", desc := "()I" } : Jvm.MethodName)) ∈ lw_all := lw_g (lw_at lw_m5 74 rfl) rfl
theorem q1119 : (Jvm.Cond.selects "EchoPens" ({ cls := "EchoPens", name := "torn", desc := "()I" } : Jvm.MethodName) ({ cls := "EchoPens", name := "torn", desc := "()I" } : Jvm.MethodName)) ∈ lw_all := lw_g (lw_at lw_m5 75 rfl) rfl
theorem q1120 : (Jvm.Cond.code ({ cls := "EchoPens", name := "torn", desc := "()I" } : Jvm.MethodName) prog_1_method_67_code (1 : Nat) (Option.some Jvm.ClassFile.FieldType.int)) ∈ lw_all := lw_g (lw_at lw_m5 76 rfl) rfl
theorem q1122 : (Jvm.Cond.instanceMethod ({ cls := "EchoPens", name := "count", desc := "(I)I" } : Jvm.MethodName)) ∈ lw_all := lw_g (lw_at lw_m5 78 rfl) rfl
theorem q1123 : (Jvm.Cond.selects "EchoPens" ({ cls := "EchoPens", name := "count", desc := "(I)I" } : Jvm.MethodName) ({ cls := "EchoPens", name := "count", desc := "(I)I" } : Jvm.MethodName)) ∈ lw_all := lw_g (lw_at lw_m5 79 rfl) rfl
theorem q1124 : (Jvm.Cond.code ({ cls := "EchoPens", name := "count", desc := "(I)I" } : Jvm.MethodName) prog_1_method_68_code (2 : Nat) (Option.some Jvm.ClassFile.FieldType.int)) ∈ lw_all := lw_g (lw_at lw_m5 80 rfl) rfl
theorem q1640 : (Jvm.Cond.stringRef "EchoPens" (400 : Nat) "plain") ∈ lw_tbl := lw_at lw_m7 116 rfl
theorem q1641 : (Jvm.Cond.stringRef "EchoPens" (402 : Nat) "twin") ∈ lw_tbl := lw_at lw_m7 117 rfl
theorem q1642 : (Jvm.Cond.stringRef "EchoPens" (404 : Nat) "runt") ∈ lw_tbl := lw_at lw_m7 118 rfl
theorem q1643 : (Jvm.Cond.stringRef "EchoPens" (406 : Nat) "wild") ∈ lw_tbl := lw_at lw_m7 119 rfl
theorem q1644 : (Jvm.Cond.stringRef "EchoPens" (408 : Nat) "pen") ∈ lw_tbl := lw_at lw_m7 120 rfl
theorem q1645 : (Jvm.Cond.stringRef "EchoPens" (410 : Nat) "order") ∈ lw_tbl := lw_at lw_m7 121 rfl
theorem in_X0 : ∀ w ∈ wsX00, w ∈ lw_all := lw_in wsX00 [954, 956, 958, 960, 962, 964, 966, 968, 970, 972, 974, 976, 978, 980, 982, 984, 986, 988, 990, 992, 994, 996, 998, 1000, 1002] (by decide +kernel) (by decide +kernel)
