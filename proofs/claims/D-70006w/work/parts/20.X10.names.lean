/-! EchoPens$Twin -/
set_option maxRecDepth 100000
def RX10 : String := "EchoPens$Twin"
abbrev cX10_returns : ByteArray := prog_10_method_3_code
def yX10_returns : MethodName := ⟨RX10, "returns", "(II)I"⟩
def dkwX10_returns_0 : List UInt8 := [5, 42, 27, 28, 183, 0, 11, 104, 172]
abbrev dktX10_returns_0 : List UInt8 := dkwX10_returns_0 ++ []
theorem dksX10_returns_0 : cX10_returns.data.toList.drop 0 = dktX10_returns_0 := by decide +kernel
theorem dX10_returns_0 : decode cX10_returns 0 = .ok (.iconst 2, 1) := dk_5 (dk_at dksX10_returns_0 0 rfl rfl)
theorem dX10_returns_1 : decode cX10_returns 1 = .ok (.aload_n 0, 1) := dk_42 (dk_at dksX10_returns_0 1 rfl rfl)
theorem dX10_returns_2 : decode cX10_returns 2 = .ok (.iload_n 1, 1) := dk_27 (dk_at dksX10_returns_0 2 rfl rfl)
theorem dX10_returns_3 : decode cX10_returns 3 = .ok (.iload_n 2, 1) := dk_28 (dk_at dksX10_returns_0 3 rfl rfl)
theorem dX10_returns_4 : decode cX10_returns 4 = .ok (.invokespecial 11, 3) := dk_183 0 11 (dk_at dksX10_returns_0 4 rfl rfl)
theorem dX10_returns_7 : decode cX10_returns 7 = .ok (.imul, 1) := dk_104 (dk_at dksX10_returns_0 7 rfl rfl)
theorem dX10_returns_8 : decode cX10_returns 8 = .ok (.ireturn, 1) := dk_172 (dk_at dksX10_returns_0 8 rfl rfl)
abbrev cX10_gain : ByteArray := prog_10_method_2_code
def yX10_gain : MethodName := ⟨RX10, "gain", "(I)I"⟩
def dkwX10_gain_0 : List UInt8 := [5, 42, 27, 183, 0, 7, 104, 172]
abbrev dktX10_gain_0 : List UInt8 := dkwX10_gain_0 ++ []
theorem dksX10_gain_0 : cX10_gain.data.toList.drop 0 = dktX10_gain_0 := by decide +kernel
theorem dX10_gain_0 : decode cX10_gain 0 = .ok (.iconst 2, 1) := dk_5 (dk_at dksX10_gain_0 0 rfl rfl)
theorem dX10_gain_1 : decode cX10_gain 1 = .ok (.aload_n 0, 1) := dk_42 (dk_at dksX10_gain_0 1 rfl rfl)
theorem dX10_gain_2 : decode cX10_gain 2 = .ok (.iload_n 1, 1) := dk_27 (dk_at dksX10_gain_0 2 rfl rfl)
theorem dX10_gain_3 : decode cX10_gain 3 = .ok (.invokespecial 7, 3) := dk_183 0 7 (dk_at dksX10_gain_0 3 rfl rfl)
theorem dX10_gain_6 : decode cX10_gain 6 = .ok (.imul, 1) := dk_104 (dk_at dksX10_gain_0 6 rfl rfl)
theorem dX10_gain_7 : decode cX10_gain 7 = .ok (.ireturn, 1) := dk_172 (dk_at dksX10_gain_0 7 rfl rfl)
theorem q594 : (Jvm.Cond.selects "EchoPens$Twin" ({ cls := "EchoPens$Plain", name := "returns", desc := "(II)I" } : Jvm.MethodName) ({ cls := "EchoPens$Twin", name := "returns", desc := "(II)I" } : Jvm.MethodName)) ∈ lw_all := lw_g (lw_at lw_m3 30 rfl) rfl
theorem q595 : (Jvm.Cond.instanceMethod ({ cls := "EchoPens$Twin", name := "returns", desc := "(II)I" } : Jvm.MethodName)) ∈ lw_all := lw_g (lw_at lw_m3 31 rfl) rfl
theorem q596 : (Jvm.Cond.code ({ cls := "EchoPens$Twin", name := "returns", desc := "(II)I" } : Jvm.MethodName) prog_10_method_3_code (3 : Nat) (Option.some Jvm.ClassFile.FieldType.int)) ∈ lw_all := lw_g (lw_at lw_m3 32 rfl) rfl
theorem q597 : (Jvm.Cond.methodLink "EchoPens$Twin" (11 : Nat) ({ cls := "EchoPens$Plain", name := "returns", desc := "(II)I" } : Jvm.MethodName)) ∈ lw_all := lw_g (lw_at lw_m3 33 rfl) rfl
theorem q598 : (Jvm.Cond.superclass "EchoPens$Twin" "EchoPens$Plain") ∈ lw_all := lw_g (lw_at lw_m3 34 rfl) rfl
theorem q688 : (Jvm.Cond.selects "EchoPens$Twin" ({ cls := "EchoPens$Plain", name := "spoils", desc := "()Z" } : Jvm.MethodName) ({ cls := "EchoPens$Plain", name := "spoils", desc := "()Z" } : Jvm.MethodName)) ∈ lw_all := lw_g (lw_at lw_m3 124 rfl) rfl
theorem q693 : (Jvm.Cond.sameMethod "EchoPens$Twin" "EchoPens$Plain" "spoils" "()Z") ∈ lw_all := lw_g (lw_at lw_m3 129 rfl) rfl
theorem q711 : (Jvm.Cond.selects "EchoPens$Twin" ({ cls := "EchoPens$Plain", name := "gain", desc := "(I)I" } : Jvm.MethodName) ({ cls := "EchoPens$Twin", name := "gain", desc := "(I)I" } : Jvm.MethodName)) ∈ lw_all := lw_g (lw_at lw_m3 147 rfl) rfl
theorem q712 : (Jvm.Cond.instanceMethod ({ cls := "EchoPens$Twin", name := "gain", desc := "(I)I" } : Jvm.MethodName)) ∈ lw_all := lw_g (lw_at lw_m3 148 rfl) rfl
theorem q713 : (Jvm.Cond.code ({ cls := "EchoPens$Twin", name := "gain", desc := "(I)I" } : Jvm.MethodName) prog_10_method_2_code (2 : Nat) (Option.some Jvm.ClassFile.FieldType.int)) ∈ lw_all := lw_g (lw_at lw_m3 149 rfl) rfl
theorem q714 : (Jvm.Cond.methodLink "EchoPens$Twin" (7 : Nat) ({ cls := "EchoPens$Plain", name := "gain", desc := "(I)I" } : Jvm.MethodName)) ∈ lw_all := lw_g (lw_at lw_m3 150 rfl) rfl
theorem q1637 : (Jvm.Cond.sameMethod "EchoPens$Twin" "EchoPens$Twin" "returns" "(II)I") ∈ lw_all := lw_g (lw_at lw_m7 113 rfl) rfl
