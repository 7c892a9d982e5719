/-! EchoPens$Image -/
set_option maxRecDepth 100000
def RX2 : String := "EchoPens$Image"
def TX2 : u_T := fun k => match k with
  | 0 => ("EchoPens$Image", "farm", "LEchoPens$Farm;", true)
  | 1 => ("EchoPens$Image", "seen", "[[I", true)
  | 2 => ("EchoPens$Image", "seenMany", "I", false)
  | 3 => ("EchoPens$Image", "isKept", "Z", false)
  | _ => ("EchoPens$Image", "this$0", "LEchoPens;", true)
def tyX2 : Nat → FieldType := fun k => match k with
  | 0 => .object "EchoPens$Farm"
  | 1 => .array (.array .int)
  | 2 => .int
  | 3 => .boolean
  | _ => .object "EchoPens"
abbrev wsX20 : List Cond := u_ws RX2 TX2 5
theorem nmX2 : ∀ a, a < 5 → ∀ b, b < 5 → a ≠ b → (TX2 a).2.1 ≠ (TX2 b).2.1 := by decide +kernel
theorem tyX2_ok : ∀ k, k < 5 → parseFieldDescriptor (TX2 k).2.2.1 = some (tyX2 k) := by decide +kernel
abbrev cX2_takes : ByteArray := prog_4_method_2_code
def yX2_takes : MethodName := ⟨RX2, "takes", "()V"⟩
def dkwX2_takes_1 : List UInt8 := [180, 0, 24, 184, 0, 35, 42, 42, 180, 0, 3, 180, 0, 39, 181, 0, 43, 177]
abbrev dktX2_takes_1 : List UInt8 := dkwX2_takes_1 ++ []
def dkwX2_takes_0 : List UInt8 := [42, 180, 0, 18, 42, 180, 0, 3, 180, 0, 27, 182, 0, 30, 42, 180, 0, 3, 180, 0, 34, 42]
abbrev dktX2_takes_0 : List UInt8 := dkwX2_takes_0 ++ dktX2_takes_1
theorem dksX2_takes_0 : cX2_takes.data.toList.drop 0 = dktX2_takes_0 := by decide +kernel
theorem dksX2_takes_1 : cX2_takes.data.toList.drop 22 = dktX2_takes_1 := dk_seg dksX2_takes_0 22 rfl rfl
theorem dX2_takes_0 : decode cX2_takes 0 = .ok (.aload_n 0, 1) := dk_42 (dk_at dksX2_takes_0 0 rfl rfl)
theorem dX2_takes_1 : decode cX2_takes 1 = .ok (.getfield 18, 3) := dk_180 0 18 (dk_at dksX2_takes_0 1 rfl rfl)
theorem dX2_takes_4 : decode cX2_takes 4 = .ok (.aload_n 0, 1) := dk_42 (dk_at dksX2_takes_0 4 rfl rfl)
theorem dX2_takes_5 : decode cX2_takes 5 = .ok (.getfield 3, 3) := dk_180 0 3 (dk_at dksX2_takes_0 5 rfl rfl)
theorem dX2_takes_8 : decode cX2_takes 8 = .ok (.getfield 27, 3) := dk_180 0 27 (dk_at dksX2_takes_0 8 rfl rfl)
theorem dX2_takes_11 : decode cX2_takes 11 = .ok (.invokevirtual 30, 3) := dk_182 0 30 (dk_at dksX2_takes_0 11 rfl rfl)
theorem dX2_takes_14 : decode cX2_takes 14 = .ok (.aload_n 0, 1) := dk_42 (dk_at dksX2_takes_0 14 rfl rfl)
theorem dX2_takes_15 : decode cX2_takes 15 = .ok (.getfield 3, 3) := dk_180 0 3 (dk_at dksX2_takes_0 15 rfl rfl)
theorem dX2_takes_18 : decode cX2_takes 18 = .ok (.getfield 34, 3) := dk_180 0 34 (dk_at dksX2_takes_0 18 rfl rfl)
theorem dX2_takes_21 : decode cX2_takes 21 = .ok (.aload_n 0, 1) := dk_42 (dk_at dksX2_takes_0 21 rfl rfl)
theorem dX2_takes_22 : decode cX2_takes 22 = .ok (.getfield 24, 3) := dk_180 0 24 (dk_at dksX2_takes_1 0 rfl rfl)
theorem dX2_takes_25 : decode cX2_takes 25 = .ok (.invokestatic 35, 3) := dk_184 0 35 (dk_at dksX2_takes_1 3 rfl rfl)
theorem dX2_takes_28 : decode cX2_takes 28 = .ok (.aload_n 0, 1) := dk_42 (dk_at dksX2_takes_1 6 rfl rfl)
theorem dX2_takes_29 : decode cX2_takes 29 = .ok (.aload_n 0, 1) := dk_42 (dk_at dksX2_takes_1 7 rfl rfl)
theorem dX2_takes_30 : decode cX2_takes 30 = .ok (.getfield 3, 3) := dk_180 0 3 (dk_at dksX2_takes_1 8 rfl rfl)
theorem dX2_takes_33 : decode cX2_takes 33 = .ok (.getfield 39, 3) := dk_180 0 39 (dk_at dksX2_takes_1 11 rfl rfl)
theorem dX2_takes_36 : decode cX2_takes 36 = .ok (.putfield 43, 3) := dk_181 0 43 (dk_at dksX2_takes_1 14 rfl rfl)
theorem dX2_takes_39 : decode cX2_takes 39 = .ok (.return_, 1) := dk_177 (dk_at dksX2_takes_1 17 rfl rfl)
abbrev cX2_gives : ByteArray := prog_4_method_3_code
def yX2_gives : MethodName := ⟨RX2, "gives", "()V"⟩
def dkwX2_gives_1 : List UInt8 := [180, 0, 34, 184, 0, 35, 42, 180, 0, 3, 42, 180, 0, 43, 181, 0, 39, 177]
abbrev dktX2_gives_1 : List UInt8 := dkwX2_gives_1 ++ []
def dkwX2_gives_0 : List UInt8 := [42, 180, 0, 3, 180, 0, 27, 42, 180, 0, 18, 182, 0, 30, 42, 180, 0, 24, 42, 180, 0, 3]
abbrev dktX2_gives_0 : List UInt8 := dkwX2_gives_0 ++ dktX2_gives_1
theorem dksX2_gives_0 : cX2_gives.data.toList.drop 0 = dktX2_gives_0 := by decide +kernel
theorem dksX2_gives_1 : cX2_gives.data.toList.drop 22 = dktX2_gives_1 := dk_seg dksX2_gives_0 22 rfl rfl
theorem dX2_gives_0 : decode cX2_gives 0 = .ok (.aload_n 0, 1) := dk_42 (dk_at dksX2_gives_0 0 rfl rfl)
theorem dX2_gives_1 : decode cX2_gives 1 = .ok (.getfield 3, 3) := dk_180 0 3 (dk_at dksX2_gives_0 1 rfl rfl)
theorem dX2_gives_4 : decode cX2_gives 4 = .ok (.getfield 27, 3) := dk_180 0 27 (dk_at dksX2_gives_0 4 rfl rfl)
theorem dX2_gives_7 : decode cX2_gives 7 = .ok (.aload_n 0, 1) := dk_42 (dk_at dksX2_gives_0 7 rfl rfl)
theorem dX2_gives_8 : decode cX2_gives 8 = .ok (.getfield 18, 3) := dk_180 0 18 (dk_at dksX2_gives_0 8 rfl rfl)
theorem dX2_gives_11 : decode cX2_gives 11 = .ok (.invokevirtual 30, 3) := dk_182 0 30 (dk_at dksX2_gives_0 11 rfl rfl)
theorem dX2_gives_14 : decode cX2_gives 14 = .ok (.aload_n 0, 1) := dk_42 (dk_at dksX2_gives_0 14 rfl rfl)
theorem dX2_gives_15 : decode cX2_gives 15 = .ok (.getfield 24, 3) := dk_180 0 24 (dk_at dksX2_gives_0 15 rfl rfl)
theorem dX2_gives_18 : decode cX2_gives 18 = .ok (.aload_n 0, 1) := dk_42 (dk_at dksX2_gives_0 18 rfl rfl)
theorem dX2_gives_19 : decode cX2_gives 19 = .ok (.getfield 3, 3) := dk_180 0 3 (dk_at dksX2_gives_0 19 rfl rfl)
theorem dX2_gives_22 : decode cX2_gives 22 = .ok (.getfield 34, 3) := dk_180 0 34 (dk_at dksX2_gives_1 0 rfl rfl)
theorem dX2_gives_25 : decode cX2_gives 25 = .ok (.invokestatic 35, 3) := dk_184 0 35 (dk_at dksX2_gives_1 3 rfl rfl)
theorem dX2_gives_28 : decode cX2_gives 28 = .ok (.aload_n 0, 1) := dk_42 (dk_at dksX2_gives_1 6 rfl rfl)
theorem dX2_gives_29 : decode cX2_gives 29 = .ok (.getfield 3, 3) := dk_180 0 3 (dk_at dksX2_gives_1 7 rfl rfl)
theorem dX2_gives_32 : decode cX2_gives 32 = .ok (.aload_n 0, 1) := dk_42 (dk_at dksX2_gives_1 10 rfl rfl)
theorem dX2_gives_33 : decode cX2_gives 33 = .ok (.getfield 43, 3) := dk_180 0 43 (dk_at dksX2_gives_1 11 rfl rfl)
theorem dX2_gives_36 : decode cX2_gives 36 = .ok (.putfield 39, 3) := dk_181 0 39 (dk_at dksX2_gives_1 14 rfl rfl)
theorem dX2_gives_39 : decode cX2_gives 39 = .ok (.return_, 1) := dk_177 (dk_at dksX2_gives_1 17 rfl rfl)
abbrev cX2_init : ByteArray := prog_4_method_1_code
def yX2_init : MethodName := ⟨RX2, "<init>", "(LEchoPens;)V"⟩
def dkwX2_init_1 : List UInt8 := [197, 0, 22, 2, 181, 0, 24, 177]
abbrev dktX2_init_1 : List UInt8 := dkwX2_init_1 ++ []
def dkwX2_init_0 : List UInt8 := [42, 43, 181, 0, 3, 42, 183, 0, 9, 42, 187, 0, 15, 89, 183, 0, 17, 181, 0, 18, 42, 16, 6, 6]
abbrev dktX2_init_0 : List UInt8 := dkwX2_init_0 ++ dktX2_init_1
theorem dksX2_init_0 : cX2_init.data.toList.drop 0 = dktX2_init_0 := by decide +kernel
theorem dksX2_init_1 : cX2_init.data.toList.drop 24 = dktX2_init_1 := dk_seg dksX2_init_0 24 rfl rfl
theorem dX2_init_0 : decode cX2_init 0 = .ok (.aload_n 0, 1) := dk_42 (dk_at dksX2_init_0 0 rfl rfl)
theorem dX2_init_1 : decode cX2_init 1 = .ok (.aload_n 1, 1) := dk_43 (dk_at dksX2_init_0 1 rfl rfl)
theorem dX2_init_2 : decode cX2_init 2 = .ok (.putfield 3, 3) := dk_181 0 3 (dk_at dksX2_init_0 2 rfl rfl)
theorem dX2_init_5 : decode cX2_init 5 = .ok (.aload_n 0, 1) := dk_42 (dk_at dksX2_init_0 5 rfl rfl)
theorem dX2_init_6 : decode cX2_init 6 = .ok (.invokespecial 9, 3) := dk_183 0 9 (dk_at dksX2_init_0 6 rfl rfl)
theorem dX2_init_9 : decode cX2_init 9 = .ok (.aload_n 0, 1) := dk_42 (dk_at dksX2_init_0 9 rfl rfl)
theorem dX2_init_10 : decode cX2_init 10 = .ok (.new 15, 3) := dk_187 0 15 (dk_at dksX2_init_0 10 rfl rfl)
theorem dX2_init_13 : decode cX2_init 13 = .ok (.dup, 1) := dk_89 (dk_at dksX2_init_0 13 rfl rfl)
theorem dX2_init_14 : decode cX2_init 14 = .ok (.invokespecial 17, 3) := dk_183 0 17 (dk_at dksX2_init_0 14 rfl rfl)
theorem dX2_init_17 : decode cX2_init 17 = .ok (.putfield 18, 3) := dk_181 0 18 (dk_at dksX2_init_0 17 rfl rfl)
theorem dX2_init_20 : decode cX2_init 20 = .ok (.aload_n 0, 1) := dk_42 (dk_at dksX2_init_0 20 rfl rfl)
theorem dX2_init_21 : decode cX2_init 21 = .ok (.bipush 6, 2) := dk_16 6 (dk_at dksX2_init_0 21 rfl rfl)
theorem dX2_init_23 : decode cX2_init 23 = .ok (.iconst 3, 1) := dk_6 (dk_at dksX2_init_0 23 rfl rfl)
theorem dX2_init_24 : decode cX2_init 24 = .ok (.multianewarray 22 2, 4) := by decide +kernel
theorem dX2_init_28 : decode cX2_init 28 = .ok (.putfield 24, 3) := dk_181 0 24 (dk_at dksX2_init_1 4 rfl rfl)
theorem dX2_init_31 : decode cX2_init 31 = .ok (.return_, 1) := dk_177 (dk_at dksX2_init_1 7 rfl rfl)
theorem q87 : (Jvm.Cond.initialized "EchoPens$Image") ∈ lw_all := lw_g (lw_at lw_m1 3 rfl) rfl
theorem q861 : (Jvm.Cond.instanceMethod ({ cls := "EchoPens$Image", name := "takes", desc := "()V" } : Jvm.MethodName)) ∈ lw_all := lw_g (lw_at lw_m4 57 rfl) rfl
theorem q862 : (Jvm.Cond.selects "EchoPens$Image" ({ cls := "EchoPens$Image", name := "takes", desc := "()V" } : Jvm.MethodName) ({ cls := "EchoPens$Image", name := "takes", desc := "()V" } : Jvm.MethodName)) ∈ lw_all := lw_g (lw_at lw_m4 58 rfl) rfl
theorem q863 : (Jvm.Cond.code ({ cls := "EchoPens$Image", name := "takes", desc := "()V" } : Jvm.MethodName) prog_4_method_2_code (1 : Nat) (Option.none : Option Jvm.ClassFile.FieldType)) ∈ lw_all := lw_g (lw_at lw_m4 59 rfl) rfl
theorem q864 : (Jvm.Cond.methodLink "EchoPens$Image" (30 : Nat) ({ cls := "EchoPens$Farm", name := "takes", desc := "(LEchoPens$Farm;)V" } : Jvm.MethodName)) ∈ lw_all := lw_g (lw_at lw_m4 60 rfl) rfl
theorem q865 : (Jvm.Cond.methodLinkNest "EchoPens$Image" (35 : Nat) ({ cls := "EchoPens", name := "copies", desc := "([[I[[I)V" } : Jvm.MethodName) "EchoPens") ∈ lw_tbl := lw_at lw_m4 61 rfl
theorem q873 : (Jvm.Cond.instanceMethod ({ cls := "EchoPens$Image", name := "gives", desc := "()V" } : Jvm.MethodName)) ∈ lw_all := lw_g (lw_at lw_m4 69 rfl) rfl
theorem q874 : (Jvm.Cond.selects "EchoPens$Image" ({ cls := "EchoPens$Image", name := "gives", desc := "()V" } : Jvm.MethodName) ({ cls := "EchoPens$Image", name := "gives", desc := "()V" } : Jvm.MethodName)) ∈ lw_all := lw_g (lw_at lw_m4 70 rfl) rfl
theorem q875 : (Jvm.Cond.code ({ cls := "EchoPens$Image", name := "gives", desc := "()V" } : Jvm.MethodName) prog_4_method_3_code (1 : Nat) (Option.none : Option Jvm.ClassFile.FieldType)) ∈ lw_all := lw_g (lw_at lw_m4 71 rfl) rfl
theorem q888 : (Jvm.Cond.instantiable "EchoPens$Image" (5 : Nat)) ∈ lw_all := lw_g (lw_at lw_m4 84 rfl) rfl
theorem q890 : (Jvm.Cond.instanceMethod ({ cls := "EchoPens$Image", name := "<init>", desc := "(LEchoPens;)V" } : Jvm.MethodName)) ∈ lw_all := lw_g (lw_at lw_m4 86 rfl) rfl
theorem q891 : (Jvm.Cond.code ({ cls := "EchoPens$Image", name := "<init>", desc := "(LEchoPens;)V" } : Jvm.MethodName) prog_4_method_1_code (2 : Nat) (Option.none : Option Jvm.ClassFile.FieldType)) ∈ lw_all := lw_g (lw_at lw_m4 87 rfl) rfl
theorem q892 : (Jvm.Cond.methodLink "EchoPens$Image" (9 : Nat) ({ cls := "java/lang/Object", name := "<init>", desc := "()V" } : Jvm.MethodName)) ∈ lw_all := lw_g (lw_at lw_m4 88 rfl) rfl
theorem q893 : (Jvm.Cond.classLink "EchoPens$Image" (15 : Nat) "EchoPens$Farm") ∈ lw_all := lw_g (lw_at lw_m4 89 rfl) rfl
theorem q894 : (Jvm.Cond.methodLinkNest "EchoPens$Image" (17 : Nat) ({ cls := "EchoPens$Farm", name := "<init>", desc := "()V" } : Jvm.MethodName) "EchoPens") ∈ lw_tbl := lw_at lw_m4 90 rfl
theorem q895 : (Jvm.Cond.classLink "EchoPens$Image" (22 : Nat) "[[I") ∈ lw_all := lw_g (lw_at lw_m4 91 rfl) rfl
theorem q896 : (Jvm.Cond.fieldLink "EchoPens$Image" (18 : Nat) "EchoPens$Image" "farm" "LEchoPens$Farm;") ∈ lw_all := lw_g (lw_at lw_m4 92 rfl) rfl
theorem q897 : (Jvm.Cond.fieldLink "EchoPens$Image" (24 : Nat) "EchoPens$Image" "seen" "[[I") ∈ lw_all := lw_g (lw_at lw_m4 93 rfl) rfl
theorem q898 : (Jvm.Cond.fieldLink "EchoPens$Image" (43 : Nat) "EchoPens$Image" "seenMany" "I") ∈ lw_all := lw_g (lw_at lw_m4 94 rfl) rfl
theorem q900 : (Jvm.Cond.fieldLink "EchoPens$Image" (3 : Nat) "EchoPens$Image" "this$0" "LEchoPens;") ∈ lw_all := lw_g (lw_at lw_m4 96 rfl) rfl
theorem q901 : (Jvm.Cond.laysFinal "EchoPens$Image" "EchoPens$Image" "farm" "LEchoPens$Farm;") ∈ lw_all := lw_g (lw_at lw_m4 97 rfl) rfl
theorem q902 : (Jvm.Cond.soleField "EchoPens$Image" "farm") ∈ lw_all := lw_g (lw_at lw_m4 98 rfl) rfl
theorem q903 : (Jvm.Cond.laysFinal "EchoPens$Image" "EchoPens$Image" "seen" "[[I") ∈ lw_all := lw_g (lw_at lw_m4 99 rfl) rfl
theorem q904 : (Jvm.Cond.soleField "EchoPens$Image" "seen") ∈ lw_all := lw_g (lw_at lw_m4 100 rfl) rfl
theorem q905 : (Jvm.Cond.lays "EchoPens$Image" "EchoPens$Image" "seenMany" "I") ∈ lw_all := lw_g (lw_at lw_m4 101 rfl) rfl
theorem q906 : (Jvm.Cond.soleField "EchoPens$Image" "seenMany") ∈ lw_all := lw_g (lw_at lw_m4 102 rfl) rfl
theorem q907 : (Jvm.Cond.lays "EchoPens$Image" "EchoPens$Image" "isKept" "Z") ∈ lw_all := lw_g (lw_at lw_m4 103 rfl) rfl
theorem q908 : (Jvm.Cond.soleField "EchoPens$Image" "isKept") ∈ lw_all := lw_g (lw_at lw_m4 104 rfl) rfl
theorem q909 : (Jvm.Cond.laysFinal "EchoPens$Image" "EchoPens$Image" "this$0" "LEchoPens;") ∈ lw_all := lw_g (lw_at lw_m4 105 rfl) rfl
theorem q910 : (Jvm.Cond.soleField "EchoPens$Image" "this$0") ∈ lw_all := lw_g (lw_at lw_m4 106 rfl) rfl
theorem q911 : (Jvm.Cond.superclass "EchoPens$Image" "java/lang/Object") ∈ lw_all := lw_g (lw_at lw_m4 107 rfl) rfl
theorem q929 : (Jvm.Cond.fieldLinkNest "EchoPens$Image" (27 : Nat) "EchoPens" "now" "LEchoPens$Farm;" "EchoPens") ∈ lw_tbl := lw_at lw_m4 125 rfl
theorem q944 : (Jvm.Cond.fieldLinkNest "EchoPens$Image" (34 : Nat) "EchoPens" "seen" "[[I" "EchoPens") ∈ lw_tbl := lw_at lw_m4 140 rfl
theorem q946 : (Jvm.Cond.fieldLinkNest "EchoPens$Image" (39 : Nat) "EchoPens" "seenMany" "I" "EchoPens") ∈ lw_tbl := lw_at lw_m4 142 rfl
theorem in_X2 : ∀ w ∈ wsX20, w ∈ lw_all := lw_in wsX20 [901, 903, 905, 907, 909] (by decide +kernel) (by decide +kernel)
