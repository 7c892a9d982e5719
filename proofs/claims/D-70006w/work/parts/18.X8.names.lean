/-! EchoPens$Plain -/
set_option maxRecDepth 100000
def RX8 : String := "EchoPens$Plain"
abbrev cX8_returns : ByteArray := prog_6_method_3_code
def yX8_returns : MethodName := ⟨RX8, "returns", "(II)I"⟩
def dkwX8_returns_0 : List UInt8 := [27, 28, 108, 172]
abbrev dktX8_returns_0 : List UInt8 := dkwX8_returns_0 ++ []
theorem dksX8_returns_0 : cX8_returns.data.toList.drop 0 = dktX8_returns_0 := by decide +kernel
theorem dX8_returns_0 : decode cX8_returns 0 = .ok (.iload_n 1, 1) := dk_27 (dk_at dksX8_returns_0 0 rfl rfl)
theorem dX8_returns_1 : decode cX8_returns 1 = .ok (.iload_n 2, 1) := dk_28 (dk_at dksX8_returns_0 1 rfl rfl)
theorem dX8_returns_2 : decode cX8_returns 2 = .ok (.idiv, 1) := dk_108 (dk_at dksX8_returns_0 2 rfl rfl)
theorem dX8_returns_3 : decode cX8_returns 3 = .ok (.ireturn, 1) := dk_172 (dk_at dksX8_returns_0 3 rfl rfl)
abbrev cX8_spoils : ByteArray := prog_6_method_4_code
def yX8_spoils : MethodName := ⟨RX8, "spoils", "()Z"⟩
theorem dX8_spoils_0 : decode cX8_spoils 0 = .ok (.iconst 0, 1) := by decide +kernel
theorem dX8_spoils_1 : decode cX8_spoils 1 = .ok (.ireturn, 1) := by decide +kernel
abbrev cX8_gain : ByteArray := prog_6_method_2_code
def yX8_gain : MethodName := ⟨RX8, "gain", "(I)I"⟩
theorem dX8_gain_0 : decode cX8_gain 0 = .ok (.iload_n 1, 1) := by decide +kernel
theorem dX8_gain_1 : decode cX8_gain 1 = .ok (.ireturn, 1) := by decide +kernel
theorem q586 : (Jvm.Cond.instanceMethod ({ cls := "EchoPens$Plain", name := "returns", desc := "(II)I" } : Jvm.MethodName)) ∈ lw_all := lw_g (lw_at lw_m3 22 rfl) rfl
theorem q587 : (Jvm.Cond.selects "EchoPens$Plain" ({ cls := "EchoPens$Plain", name := "returns", desc := "(II)I" } : Jvm.MethodName) ({ cls := "EchoPens$Plain", name := "returns", desc := "(II)I" } : Jvm.MethodName)) ∈ lw_all := lw_g (lw_at lw_m3 23 rfl) rfl
theorem q588 : (Jvm.Cond.sameMethod "EchoPens$Plain" "EchoPens$Plain" "returns" "(II)I") ∈ lw_all := lw_g (lw_at lw_m3 24 rfl) rfl
theorem q604 : (Jvm.Cond.code ({ cls := "EchoPens$Plain", name := "returns", desc := "(II)I" } : Jvm.MethodName) prog_6_method_3_code (3 : Nat) (Option.some Jvm.ClassFile.FieldType.int)) ∈ lw_all := lw_g (lw_at lw_m3 40 rfl) rfl
theorem q684 : (Jvm.Cond.instanceMethod ({ cls := "EchoPens$Plain", name := "spoils", desc := "()Z" } : Jvm.MethodName)) ∈ lw_all := lw_g (lw_at lw_m3 120 rfl) rfl
theorem q685 : (Jvm.Cond.selects "EchoPens$Plain" ({ cls := "EchoPens$Plain", name := "spoils", desc := "()Z" } : Jvm.MethodName) ({ cls := "EchoPens$Plain", name := "spoils", desc := "()Z" } : Jvm.MethodName)) ∈ lw_all := lw_g (lw_at lw_m3 121 rfl) rfl
theorem q686 : (Jvm.Cond.sameMethod "EchoPens$Plain" "EchoPens$Plain" "spoils" "()Z") ∈ lw_all := lw_g (lw_at lw_m3 122 rfl) rfl
theorem q694 : (Jvm.Cond.declares ({ cls := "EchoPens$Plain", name := "spoils", desc := "()Z" } : Jvm.MethodName)) ∈ lw_tbl := lw_at lw_m3 130 rfl
theorem q695 : (Jvm.Cond.code ({ cls := "EchoPens$Plain", name := "spoils", desc := "()Z" } : Jvm.MethodName) prog_6_method_4_code (1 : Nat) (Option.some Jvm.ClassFile.FieldType.boolean)) ∈ lw_all := lw_g (lw_at lw_m3 131 rfl) rfl
theorem q703 : (Jvm.Cond.instanceMethod ({ cls := "EchoPens$Plain", name := "gain", desc := "(I)I" } : Jvm.MethodName)) ∈ lw_all := lw_g (lw_at lw_m3 139 rfl) rfl
theorem q704 : (Jvm.Cond.selects "EchoPens$Plain" ({ cls := "EchoPens$Plain", name := "gain", desc := "(I)I" } : Jvm.MethodName) ({ cls := "EchoPens$Plain", name := "gain", desc := "(I)I" } : Jvm.MethodName)) ∈ lw_all := lw_g (lw_at lw_m3 140 rfl) rfl
theorem q705 : (Jvm.Cond.sameMethod "EchoPens$Plain" "EchoPens$Plain" "gain" "(I)I") ∈ lw_all := lw_g (lw_at lw_m3 141 rfl) rfl
theorem q716 : (Jvm.Cond.code ({ cls := "EchoPens$Plain", name := "gain", desc := "(I)I" } : Jvm.MethodName) prog_6_method_2_code (2 : Nat) (Option.some Jvm.ClassFile.FieldType.int)) ∈ lw_all := lw_g (lw_at lw_m3 152 rfl) rfl
