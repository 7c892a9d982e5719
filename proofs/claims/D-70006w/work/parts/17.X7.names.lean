/-! EchoPens$Order -/
set_option maxRecDepth 100000
def RX7 : String := "EchoPens$Order"
def TX7 : u_T := fun k => match k with
  | 0 => ("EchoPens$Order", "end", "[B", true)
  | 1 => ("EchoPens$Order", "many", "I", false)
  | 2 => ("EchoPens$Order", "returns", "I", false)
  | _ => ("EchoPens$Order", "price", "I", false)
def tyX7 : Nat → FieldType := fun k => match k with
  | 0 => .array .byte
  | 1 => .int
  | 2 => .int
  | _ => .int
abbrev wsX70 : List Cond := u_ws RX7 TX7 4
theorem nmX7 : ∀ a, a < 4 → ∀ b, b < 4 → a ≠ b → (TX7 a).2.1 ≠ (TX7 b).2.1 := by decide +kernel
theorem tyX7_ok : ∀ k, k < 4 → parseFieldDescriptor (TX7 k).2.2.1 = some (tyX7 k) := by decide +kernel
abbrev cX7_init : ByteArray := prog_5_method_1_code
def yX7_init : MethodName := ⟨RX7, "<init>", "()V"⟩
def dkwX7_init_0 : List UInt8 := [42, 183, 0, 3, 42, 8, 188, 8, 181, 0, 9, 177]
abbrev dktX7_init_0 : List UInt8 := dkwX7_init_0 ++ []
theorem dksX7_init_0 : cX7_init.data.toList.drop 0 = dktX7_init_0 := by decide +kernel
theorem dX7_init_0 : decode cX7_init 0 = .ok (.aload_n 0, 1) := dk_42 (dk_at dksX7_init_0 0 rfl rfl)
theorem dX7_init_1 : decode cX7_init 1 = .ok (.invokespecial 3, 3) := dk_183 0 3 (dk_at dksX7_init_0 1 rfl rfl)
theorem dX7_init_4 : decode cX7_init 4 = .ok (.aload_n 0, 1) := dk_42 (dk_at dksX7_init_0 4 rfl rfl)
theorem dX7_init_5 : decode cX7_init 5 = .ok (.iconst 5, 1) := dk_8 (dk_at dksX7_init_0 5 rfl rfl)
theorem dX7_init_6 : decode cX7_init 6 = .ok (.newarray .byte, 2) := dk_188_8 (dk_at dksX7_init_0 6 rfl rfl)
theorem dX7_init_8 : decode cX7_init 8 = .ok (.putfield 9, 3) := dk_181 0 9 (dk_at dksX7_init_0 8 rfl rfl)
theorem dX7_init_11 : decode cX7_init 11 = .ok (.return_, 1) := dk_177 (dk_at dksX7_init_0 11 rfl rfl)
theorem q102 : (Jvm.Cond.initialized "EchoPens$Order") ∈ lw_all := lw_g (lw_at lw_m1 18 rfl) rfl
theorem q502 : (Jvm.Cond.instantiable "EchoPens$Order" (4 : Nat)) ∈ lw_all := lw_g (lw_at lw_m2 178 rfl) rfl
theorem q504 : (Jvm.Cond.instanceMethod ({ cls := "EchoPens$Order", name := "<init>", desc := "()V" } : Jvm.MethodName)) ∈ lw_all := lw_g (lw_at lw_m2 180 rfl) rfl
theorem q505 : (Jvm.Cond.code ({ cls := "EchoPens$Order", name := "<init>", desc := "()V" } : Jvm.MethodName) prog_5_method_1_code (1 : Nat) (Option.none : Option Jvm.ClassFile.FieldType)) ∈ lw_all := lw_g (lw_at lw_m2 181 rfl) rfl
theorem q506 : (Jvm.Cond.methodLink "EchoPens$Order" (3 : Nat) ({ cls := "java/lang/Object", name := "<init>", desc := "()V" } : Jvm.MethodName)) ∈ lw_all := lw_g (lw_at lw_m2 182 rfl) rfl
theorem q507 : (Jvm.Cond.fieldLink "EchoPens$Order" (9 : Nat) "EchoPens$Order" "end" "[B") ∈ lw_all := lw_g (lw_at lw_m2 183 rfl) rfl
theorem q516 : (Jvm.Cond.laysFinal "EchoPens$Order" "EchoPens$Order" "end" "[B") ∈ lw_all := lw_g (lw_at lw_m2 192 rfl) rfl
theorem q517 : (Jvm.Cond.soleField "EchoPens$Order" "end") ∈ lw_all := lw_g (lw_at lw_m2 193 rfl) rfl
theorem q518 : (Jvm.Cond.lays "EchoPens$Order" "EchoPens$Order" "many" "I") ∈ lw_all := lw_g (lw_at lw_m2 194 rfl) rfl
theorem q519 : (Jvm.Cond.soleField "EchoPens$Order" "many") ∈ lw_all := lw_g (lw_at lw_m2 195 rfl) rfl
theorem q520 : (Jvm.Cond.lays "EchoPens$Order" "EchoPens$Order" "returns" "I") ∈ lw_all := lw_g (lw_at lw_m2 196 rfl) rfl
theorem q521 : (Jvm.Cond.soleField "EchoPens$Order" "returns") ∈ lw_all := lw_g (lw_at lw_m2 197 rfl) rfl
theorem q522 : (Jvm.Cond.lays "EchoPens$Order" "EchoPens$Order" "price" "I") ∈ lw_all := lw_g (lw_at lw_m2 198 rfl) rfl
theorem q523 : (Jvm.Cond.soleField "EchoPens$Order" "price") ∈ lw_all := lw_g (lw_at lw_m2 199 rfl) rfl
theorem q524 : (Jvm.Cond.superclass "EchoPens$Order" "java/lang/Object") ∈ lw_all := lw_g (lw_at lw_m2 200 rfl) rfl
theorem in_X7 : ∀ w ∈ wsX70, w ∈ lw_all := lw_in wsX70 [516, 518, 520, 522] (by decide +kernel) (by decide +kernel)
