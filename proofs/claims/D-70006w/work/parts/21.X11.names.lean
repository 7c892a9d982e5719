/-! EchoPens$Wild -/
set_option maxRecDepth 100000
def RX11 : String := "EchoPens$Wild"
abbrev cX11_returns : ByteArray := prog_11_method_2_code
def yX11_returns : MethodName := ⟨RX11, "returns", "(II)I"⟩
def dkwX11_returns_0 : List UInt8 := [42, 27, 28, 183, 0, 7, 5, 108, 172]
abbrev dktX11_returns_0 : List UInt8 := dkwX11_returns_0 ++ []
theorem dksX11_returns_0 : cX11_returns.data.toList.drop 0 = dktX11_returns_0 := by decide +kernel
theorem dX11_returns_0 : decode cX11_returns 0 = .ok (.aload_n 0, 1) := dk_42 (dk_at dksX11_returns_0 0 rfl rfl)
theorem dX11_returns_1 : decode cX11_returns 1 = .ok (.iload_n 1, 1) := dk_27 (dk_at dksX11_returns_0 1 rfl rfl)
theorem dX11_returns_2 : decode cX11_returns 2 = .ok (.iload_n 2, 1) := dk_28 (dk_at dksX11_returns_0 2 rfl rfl)
theorem dX11_returns_3 : decode cX11_returns 3 = .ok (.invokespecial 7, 3) := dk_183 0 7 (dk_at dksX11_returns_0 3 rfl rfl)
theorem dX11_returns_6 : decode cX11_returns 6 = .ok (.iconst 2, 1) := dk_5 (dk_at dksX11_returns_0 6 rfl rfl)
theorem dX11_returns_7 : decode cX11_returns 7 = .ok (.idiv, 1) := dk_108 (dk_at dksX11_returns_0 7 rfl rfl)
theorem dX11_returns_8 : decode cX11_returns 8 = .ok (.ireturn, 1) := dk_172 (dk_at dksX11_returns_0 8 rfl rfl)
abbrev cX11_spoils : ByteArray := prog_11_method_3_code
def yX11_spoils : MethodName := ⟨RX11, "spoils", "()Z"⟩
def dkwX11_spoils_0 : List UInt8 := [42, 183, 0, 11, 154, 0, 7, 4, 167, 0, 4, 3, 172]
abbrev dktX11_spoils_0 : List UInt8 := dkwX11_spoils_0 ++ []
theorem dksX11_spoils_0 : cX11_spoils.data.toList.drop 0 = dktX11_spoils_0 := by decide +kernel
theorem dX11_spoils_0 : decode cX11_spoils 0 = .ok (.aload_n 0, 1) := dk_42 (dk_at dksX11_spoils_0 0 rfl rfl)
theorem dX11_spoils_1 : decode cX11_spoils 1 = .ok (.invokespecial 11, 3) := dk_183 0 11 (dk_at dksX11_spoils_0 1 rfl rfl)
theorem dX11_spoils_4 : decode cX11_spoils 4 = .ok (.ifCond .ne 7, 3) := dk_154 0 7 (dk_at dksX11_spoils_0 4 rfl rfl)
theorem dX11_spoils_7 : decode cX11_spoils 7 = .ok (.iconst 1, 1) := dk_4 (dk_at dksX11_spoils_0 7 rfl rfl)
theorem dX11_spoils_8 : decode cX11_spoils 8 = .ok (.goto 4, 3) := dk_167 0 4 (dk_at dksX11_spoils_0 8 rfl rfl)
theorem dX11_spoils_11 : decode cX11_spoils 11 = .ok (.iconst 0, 1) := dk_3 (dk_at dksX11_spoils_0 11 rfl rfl)
theorem dX11_spoils_12 : decode cX11_spoils 12 = .ok (.ireturn, 1) := dk_172 (dk_at dksX11_spoils_0 12 rfl rfl)
theorem q599 : (Jvm.Cond.selects "EchoPens$Wild" ({ cls := "EchoPens$Plain", name := "returns", desc := "(II)I" } : Jvm.MethodName) ({ cls := "EchoPens$Wild", name := "returns", desc := "(II)I" } : Jvm.MethodName)) ∈ lw_all := lw_g (lw_at lw_m3 35 rfl) rfl
theorem q600 : (Jvm.Cond.instanceMethod ({ cls := "EchoPens$Wild", name := "returns", desc := "(II)I" } : Jvm.MethodName)) ∈ lw_all := lw_g (lw_at lw_m3 36 rfl) rfl
theorem q601 : (Jvm.Cond.code ({ cls := "EchoPens$Wild", name := "returns", desc := "(II)I" } : Jvm.MethodName) prog_11_method_2_code (3 : Nat) (Option.some Jvm.ClassFile.FieldType.int)) ∈ lw_all := lw_g (lw_at lw_m3 37 rfl) rfl
theorem q602 : (Jvm.Cond.methodLink "EchoPens$Wild" (7 : Nat) ({ cls := "EchoPens$Twin", name := "returns", desc := "(II)I" } : Jvm.MethodName)) ∈ lw_all := lw_g (lw_at lw_m3 38 rfl) rfl
theorem q603 : (Jvm.Cond.superclass "EchoPens$Wild" "EchoPens$Twin") ∈ lw_all := lw_g (lw_at lw_m3 39 rfl) rfl
theorem q689 : (Jvm.Cond.selects "EchoPens$Wild" ({ cls := "EchoPens$Plain", name := "spoils", desc := "()Z" } : Jvm.MethodName) ({ cls := "EchoPens$Wild", name := "spoils", desc := "()Z" } : Jvm.MethodName)) ∈ lw_all := lw_g (lw_at lw_m3 125 rfl) rfl
theorem q690 : (Jvm.Cond.instanceMethod ({ cls := "EchoPens$Wild", name := "spoils", desc := "()Z" } : Jvm.MethodName)) ∈ lw_all := lw_g (lw_at lw_m3 126 rfl) rfl
theorem q691 : (Jvm.Cond.code ({ cls := "EchoPens$Wild", name := "spoils", desc := "()Z" } : Jvm.MethodName) prog_11_method_3_code (1 : Nat) (Option.some Jvm.ClassFile.FieldType.boolean)) ∈ lw_all := lw_g (lw_at lw_m3 127 rfl) rfl
theorem q692 : (Jvm.Cond.methodLink "EchoPens$Wild" (11 : Nat) ({ cls := "EchoPens$Twin", name := "spoils", desc := "()Z" } : Jvm.MethodName)) ∈ lw_all := lw_g (lw_at lw_m3 128 rfl) rfl
theorem q715 : (Jvm.Cond.selects "EchoPens$Wild" ({ cls := "EchoPens$Plain", name := "gain", desc := "(I)I" } : Jvm.MethodName) ({ cls := "EchoPens$Twin", name := "gain", desc := "(I)I" } : Jvm.MethodName)) ∈ lw_all := lw_g (lw_at lw_m3 151 rfl) rfl
