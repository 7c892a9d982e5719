/-! EchoPens$Runt -/
set_option maxRecDepth 100000
def RX9 : String := "EchoPens$Runt"
abbrev cX9_returns : ByteArray := prog_8_method_3_code
def yX9_returns : MethodName := ⟨RX9, "returns", "(II)I"⟩
def dkwX9_returns_0 : List UInt8 := [42, 27, 28, 183, 0, 17, 4, 96, 172]
abbrev dktX9_returns_0 : List UInt8 := dkwX9_returns_0 ++ []
theorem dksX9_returns_0 : cX9_returns.data.toList.drop 0 = dktX9_returns_0 := by decide +kernel
theorem dX9_returns_0 : decode cX9_returns 0 = .ok (.aload_n 0, 1) := dk_42 (dk_at dksX9_returns_0 0 rfl rfl)
theorem dX9_returns_1 : decode cX9_returns 1 = .ok (.iload_n 1, 1) := dk_27 (dk_at dksX9_returns_0 1 rfl rfl)
theorem dX9_returns_2 : decode cX9_returns 2 = .ok (.iload_n 2, 1) := dk_28 (dk_at dksX9_returns_0 2 rfl rfl)
theorem dX9_returns_3 : decode cX9_returns 3 = .ok (.invokespecial 17, 3) := dk_183 0 17 (dk_at dksX9_returns_0 3 rfl rfl)
theorem dX9_returns_6 : decode cX9_returns 6 = .ok (.iconst 1, 1) := dk_4 (dk_at dksX9_returns_0 6 rfl rfl)
theorem dX9_returns_7 : decode cX9_returns 7 = .ok (.iadd, 1) := dk_96 (dk_at dksX9_returns_0 7 rfl rfl)
theorem dX9_returns_8 : decode cX9_returns 8 = .ok (.ireturn, 1) := dk_172 (dk_at dksX9_returns_0 8 rfl rfl)
abbrev cX9_gain : ByteArray := prog_8_method_2_code
def yX9_gain : MethodName := ⟨RX9, "gain", "(I)I"⟩
def dkwX9_gain_0 : List UInt8 := [4, 42, 27, 183, 0, 7, 184, 0, 11, 172]
abbrev dktX9_gain_0 : List UInt8 := dkwX9_gain_0 ++ []
theorem dksX9_gain_0 : cX9_gain.data.toList.drop 0 = dktX9_gain_0 := by decide +kernel
theorem dX9_gain_0 : decode cX9_gain 0 = .ok (.iconst 1, 1) := dk_4 (dk_at dksX9_gain_0 0 rfl rfl)
theorem dX9_gain_1 : decode cX9_gain 1 = .ok (.aload_n 0, 1) := dk_42 (dk_at dksX9_gain_0 1 rfl rfl)
theorem dX9_gain_2 : decode cX9_gain 2 = .ok (.iload_n 1, 1) := dk_27 (dk_at dksX9_gain_0 2 rfl rfl)
theorem dX9_gain_3 : decode cX9_gain 3 = .ok (.invokespecial 7, 3) := dk_183 0 7 (dk_at dksX9_gain_0 3 rfl rfl)
theorem dX9_gain_6 : decode cX9_gain 6 = .ok (.invokestatic 11, 3) := dk_184 0 11 (dk_at dksX9_gain_0 6 rfl rfl)
theorem dX9_gain_9 : decode cX9_gain 9 = .ok (.ireturn, 1) := dk_172 (dk_at dksX9_gain_0 9 rfl rfl)
theorem q589 : (Jvm.Cond.selects "EchoPens$Runt" ({ cls := "EchoPens$Plain", name := "returns", desc := "(II)I" } : Jvm.MethodName) ({ cls := "EchoPens$Runt", name := "returns", desc := "(II)I" } : Jvm.MethodName)) ∈ lw_all := lw_g (lw_at lw_m3 25 rfl) rfl
theorem q590 : (Jvm.Cond.instanceMethod ({ cls := "EchoPens$Runt", name := "returns", desc := "(II)I" } : Jvm.MethodName)) ∈ lw_all := lw_g (lw_at lw_m3 26 rfl) rfl
theorem q591 : (Jvm.Cond.code ({ cls := "EchoPens$Runt", name := "returns", desc := "(II)I" } : Jvm.MethodName) prog_8_method_3_code (3 : Nat) (Option.some Jvm.ClassFile.FieldType.int)) ∈ lw_all := lw_g (lw_at lw_m3 27 rfl) rfl
theorem q592 : (Jvm.Cond.methodLink "EchoPens$Runt" (17 : Nat) ({ cls := "EchoPens$Plain", name := "returns", desc := "(II)I" } : Jvm.MethodName)) ∈ lw_all := lw_g (lw_at lw_m3 28 rfl) rfl
theorem q593 : (Jvm.Cond.superclass "EchoPens$Runt" "EchoPens$Plain") ∈ lw_all := lw_g (lw_at lw_m3 29 rfl) rfl
theorem q687 : (Jvm.Cond.selects "EchoPens$Runt" ({ cls := "EchoPens$Plain", name := "spoils", desc := "()Z" } : Jvm.MethodName) ({ cls := "EchoPens$Plain", name := "spoils", desc := "()Z" } : Jvm.MethodName)) ∈ lw_all := lw_g (lw_at lw_m3 123 rfl) rfl
theorem q706 : (Jvm.Cond.selects "EchoPens$Runt" ({ cls := "EchoPens$Plain", name := "gain", desc := "(I)I" } : Jvm.MethodName) ({ cls := "EchoPens$Runt", name := "gain", desc := "(I)I" } : Jvm.MethodName)) ∈ lw_all := lw_g (lw_at lw_m3 142 rfl) rfl
theorem q707 : (Jvm.Cond.instanceMethod ({ cls := "EchoPens$Runt", name := "gain", desc := "(I)I" } : Jvm.MethodName)) ∈ lw_all := lw_g (lw_at lw_m3 143 rfl) rfl
theorem q708 : (Jvm.Cond.code ({ cls := "EchoPens$Runt", name := "gain", desc := "(I)I" } : Jvm.MethodName) prog_8_method_2_code (2 : Nat) (Option.some Jvm.ClassFile.FieldType.int)) ∈ lw_all := lw_g (lw_at lw_m3 144 rfl) rfl
theorem q709 : (Jvm.Cond.methodLink "EchoPens$Runt" (7 : Nat) ({ cls := "EchoPens$Plain", name := "gain", desc := "(I)I" } : Jvm.MethodName)) ∈ lw_all := lw_g (lw_at lw_m3 145 rfl) rfl
theorem q710 : (Jvm.Cond.methodLink "EchoPens$Runt" (11 : Nat) ({ cls := "java/lang/Math", name := "min", desc := "(II)I" } : Jvm.MethodName)) ∈ lw_all := lw_g (lw_at lw_m3 146 rfl) rfl
