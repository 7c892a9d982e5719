/-! EchoPens$Fault -/
set_option maxRecDepth 100000
def RX6 : String := "EchoPens$Fault"
def TX6 : u_T := fun k => match k with
  | 0 => ("java/lang/Throwable", "cause", "Ljava/lang/Throwable;", false)
  | 1 => ("java/lang/Throwable", "stackTrace", "[Ljava/lang/StackTraceElement;", false)
  | 2 => ("java/lang/Throwable", "suppressedExceptions", "Ljava/util/List;", false)
  | 3 => ("java/lang/Throwable", "detailMessage", "Ljava/lang/String;", false)
  | 4 => ("java/lang/Throwable", "backtrace", "Ljava/lang/Object;", false)
  | 5 => ("java/lang/Throwable", "depth", "I", false)
  | 6 => ("EchoPens$Fault", "code", "I", true)
  | _ => ("EchoPens$Fault", "place", "I", true)
def tyX6 : Nat → FieldType := fun k => match k with
  | 0 => .object "java/lang/Throwable"
  | 1 => .array (.object "java/lang/StackTraceElement")
  | 2 => .object "java/util/List"
  | 3 => .object "java/lang/String"
  | 4 => .object "java/lang/Object"
  | 5 => .int
  | 6 => .int
  | _ => .int
abbrev wsX60 : List Cond := u_ws RX6 TX6 8
theorem nmX6 : ∀ a, a < 8 → ∀ b, b < 8 → a ≠ b → (TX6 a).2.1 ≠ (TX6 b).2.1 := by decide +kernel
theorem tyX6_ok : ∀ k, k < 8 → parseFieldDescriptor (TX6 k).2.2.1 = some (tyX6 k) := by decide +kernel
abbrev cX6_init : ByteArray := prog_3_method_1_code
def yX6_init : MethodName := ⟨RX6, "<init>", "(II)V"⟩
def dkwX6_init_0 : List UInt8 := [42, 1, 1, 3, 3, 183, 0, 1, 42, 27, 181, 0, 7, 42, 28, 181, 0, 13, 177]
abbrev dktX6_init_0 : List UInt8 := dkwX6_init_0 ++ []
theorem dksX6_init_0 : cX6_init.data.toList.drop 0 = dktX6_init_0 := by decide +kernel
theorem dX6_init_0 : decode cX6_init 0 = .ok (.aload_n 0, 1) := dk_42 (dk_at dksX6_init_0 0 rfl rfl)
theorem dX6_init_1 : decode cX6_init 1 = .ok (.aconst_null, 1) := dk_1 (dk_at dksX6_init_0 1 rfl rfl)
theorem dX6_init_2 : decode cX6_init 2 = .ok (.aconst_null, 1) := dk_1 (dk_at dksX6_init_0 2 rfl rfl)
theorem dX6_init_3 : decode cX6_init 3 = .ok (.iconst 0, 1) := dk_3 (dk_at dksX6_init_0 3 rfl rfl)
theorem dX6_init_4 : decode cX6_init 4 = .ok (.iconst 0, 1) := dk_3 (dk_at dksX6_init_0 4 rfl rfl)
theorem dX6_init_5 : decode cX6_init 5 = .ok (.invokespecial 1, 3) := dk_183 0 1 (dk_at dksX6_init_0 5 rfl rfl)
theorem dX6_init_8 : decode cX6_init 8 = .ok (.aload_n 0, 1) := dk_42 (dk_at dksX6_init_0 8 rfl rfl)
theorem dX6_init_9 : decode cX6_init 9 = .ok (.iload_n 1, 1) := dk_27 (dk_at dksX6_init_0 9 rfl rfl)
theorem dX6_init_10 : decode cX6_init 10 = .ok (.putfield 7, 3) := dk_181 0 7 (dk_at dksX6_init_0 10 rfl rfl)
theorem dX6_init_13 : decode cX6_init 13 = .ok (.aload_n 0, 1) := dk_42 (dk_at dksX6_init_0 13 rfl rfl)
theorem dX6_init_14 : decode cX6_init 14 = .ok (.iload_n 2, 1) := dk_28 (dk_at dksX6_init_0 14 rfl rfl)
theorem dX6_init_15 : decode cX6_init 15 = .ok (.putfield 13, 3) := dk_181 0 13 (dk_at dksX6_init_0 15 rfl rfl)
theorem dX6_init_18 : decode cX6_init 18 = .ok (.return_, 1) := dk_177 (dk_at dksX6_init_0 18 rfl rfl)
theorem q95 : (Jvm.Cond.initialized "EchoPens$Fault") ∈ lw_all := lw_g (lw_at lw_m1 11 rfl) rfl
theorem q220 : (Jvm.Cond.instantiable "EchoPens$Fault" (8 : Nat)) ∈ lw_all := lw_g (lw_at lw_m1 136 rfl) rfl
theorem q221 : (Jvm.Cond.castable "EchoPens$Fault" "EchoPens$Fault") ∈ lw_tbl := lw_at lw_m1 137 rfl
theorem q228 : (Jvm.Cond.selects "EchoPens$Fault" ({ cls := "java/lang/Throwable", name := "fillInStackTrace", desc := "(I)Ljava/lang/Throwable;" } : Jvm.MethodName) ({ cls := "java/lang/Throwable", name := "fillInStackTrace", desc := "(I)Ljava/lang/Throwable;" } : Jvm.MethodName)) ∈ lw_all := lw_g (lw_at lw_m1 144 rfl) rfl
theorem q229 : (Jvm.Cond.selects "EchoPens$Fault" ({ cls := "java/lang/Throwable", name := "fillInStackTrace", desc := "()Ljava/lang/Throwable;" } : Jvm.MethodName) ({ cls := "java/lang/Throwable", name := "fillInStackTrace", desc := "()Ljava/lang/Throwable;" } : Jvm.MethodName)) ∈ lw_all := lw_g (lw_at lw_m1 145 rfl) rfl
theorem q230 : (Jvm.Cond.lays "EchoPens$Fault" "java/lang/Throwable" "cause" "Ljava/lang/Throwable;") ∈ lw_all := lw_g (lw_at lw_m1 146 rfl) rfl
theorem q232 : (Jvm.Cond.lays "EchoPens$Fault" "java/lang/Throwable" "stackTrace" "[Ljava/lang/StackTraceElement;") ∈ lw_all := lw_g (lw_at lw_m1 148 rfl) rfl
theorem q234 : (Jvm.Cond.lays "EchoPens$Fault" "java/lang/Throwable" "suppressedExceptions" "Ljava/util/List;") ∈ lw_all := lw_g (lw_at lw_m1 150 rfl) rfl
theorem q236 : (Jvm.Cond.lays "EchoPens$Fault" "java/lang/Throwable" "detailMessage" "Ljava/lang/String;") ∈ lw_all := lw_g (lw_at lw_m1 152 rfl) rfl
theorem q238 : (Jvm.Cond.lays "EchoPens$Fault" "java/lang/Throwable" "backtrace" "Ljava/lang/Object;") ∈ lw_all := lw_g (lw_at lw_m1 154 rfl) rfl
theorem q276 : (Jvm.Cond.instanceMethod ({ cls := "EchoPens$Fault", name := "<init>", desc := "(II)V" } : Jvm.MethodName)) ∈ lw_all := lw_g (lw_at lw_m1 192 rfl) rfl
theorem q277 : (Jvm.Cond.code ({ cls := "EchoPens$Fault", name := "<init>", desc := "(II)V" } : Jvm.MethodName) prog_3_method_1_code (3 : Nat) (Option.none : Option Jvm.ClassFile.FieldType)) ∈ lw_all := lw_g (lw_at lw_m1 193 rfl) rfl
theorem q278 : (Jvm.Cond.methodLink "EchoPens$Fault" (1 : Nat) ({ cls := "java/lang/RuntimeException", name := "<init>", desc := "(Ljava/lang/String;Ljava/lang/Throwable;ZZ)V" } : Jvm.MethodName)) ∈ lw_all := lw_g (lw_at lw_m1 194 rfl) rfl
theorem q287 : (Jvm.Cond.fieldLink "EchoPens$Fault" (7 : Nat) "EchoPens$Fault" "code" "I") ∈ lw_all := lw_g (lw_at lw_m1 203 rfl) rfl
theorem q289 : (Jvm.Cond.fieldLink "EchoPens$Fault" (13 : Nat) "EchoPens$Fault" "place" "I") ∈ lw_all := lw_g (lw_at lw_m1 205 rfl) rfl
theorem q296 : (Jvm.Cond.laysFinal "EchoPens$Fault" "EchoPens$Fault" "code" "I") ∈ lw_all := lw_g (lw_at lw_m1 212 rfl) rfl
theorem q297 : (Jvm.Cond.soleField "EchoPens$Fault" "code") ∈ lw_all := lw_g (lw_at lw_m1 213 rfl) rfl
theorem q298 : (Jvm.Cond.laysFinal "EchoPens$Fault" "EchoPens$Fault" "place" "I") ∈ lw_all := lw_g (lw_at lw_m1 214 rfl) rfl
theorem q299 : (Jvm.Cond.soleField "EchoPens$Fault" "place") ∈ lw_all := lw_g (lw_at lw_m1 215 rfl) rfl
theorem q304 : (Jvm.Cond.lays "EchoPens$Fault" "java/lang/Throwable" "depth" "I") ∈ lw_all := lw_g (lw_at lw_m1 220 rfl) rfl
theorem q307 : (Jvm.Cond.superclass "EchoPens$Fault" "java/lang/RuntimeException") ∈ lw_all := lw_g (lw_at lw_m1 223 rfl) rfl
theorem in_X6 : ∀ w ∈ wsX60, w ∈ lw_all := lw_in wsX60 [230, 232, 234, 236, 238, 304, 296, 298] (by decide +kernel) (by decide +kernel)
