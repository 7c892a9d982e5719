/-! ===== the model's call sale: the buyer ===== -/
section MODEL
variable {h : Hp} {m : Nat} {R : MR} {S : MSc} {nP nE : Int} {E : Nat}
theorem m_buyerOf (hO : 0 ≤ S 5 ∧ S 5 ≤ 4) {z o : Int} (z0 : 0 ≤ z) (z1 : z < 10000) (o0 : 0 ≤ o) (o1 : o < S 5) : fX4_buyerOf (mput h m R S) m (iI z) (iI o) = some (iI (z / (6 ^ (S 5 - 1 - o).toNat : Nat) % 6 - 1)) := by
  have kp := m_power ⟨(S 5 - 1 - o).toNat, by omega⟩
  simp only [show (((S 5 - 1 - o).toNat : Nat) : Int) = S 5 - 1 - o by omega] at kp
  have pw : 1 ≤ 6 ^ (S 5 - 1 - o).toNat ∧ 6 ^ (S 5 - 1 - o).toNat ≤ 216 := by
    have : (S 5 - 1 - o).toNat = 0 ∨ (S 5 - 1 - o).toNat = 1 ∨ (S 5 - 1 - o).toNat = 2 ∨ (S 5 - 1 - o).toNat = 3 := by omega
    rcases this with w | w | w | w <;> rw [w] <;> decide
  generalize 6 ^ (S 5 - 1 - o).toNat = P at pw kp ⊢
  have q0 : 0 ≤ z / (P : Int) := Int.ediv_nonneg z0 (by omega)
  have q1 : z / (P : Int) ≤ z := Int.ediv_le_self _ z0
  unfold fX4_buyerOf
  rw [if_pos (m_cls _ _ _ _), mi_orders, Option.bind_some, iI_sub, iI_sub, kp, Option.bind_some, iI_dv z0 (by omega) (by omega) (by omega), Option.bind_some, iI_rem q0 (by omega) (by omega) (by omega), Option.bind_some, iI_sub]
end MODEL
