/-! ===== the model's best sale ===== -/
/-- the best of the first n numbers: (most, number) -/
def s_best (M T : Int → Int) (O : Nat) (z0 : Int) : Nat → Int × Int
  | 0 => (-1, z0)
  | n + 1 => if s_earn M T O n 0 0 ≤ (s_best M T O z0 n).1 then s_best M T O z0 n else (s_earn M T O n 0 0, n)
section MODEL
variable {h : Hp} {m : Nat} {R : MR} {S : MSc} {nP nE : Int} {E : Nat}
theorem m_earned (hR : v32R R) (hO : 0 ≤ S 5 ∧ S 5 ≤ 4) (hM : ∀ o, 0 ≤ o → o < 4 → 0 ≤ R 7 o ∧ R 7 o < 32) (hT : ∀ o, 0 ≤ o → o < 4 → 0 ≤ R 3 (8 * o + 7) ∧ R 3 (8 * o + 7) ≤ 9) {n : Int} (n0 : 0 ≤ n) (n1 : n < 10000) : fX4_earned (mput h m R S) m (iI n) = some (iI (s_earn (R 7) (R 3) (S 5).toNat n 0 0)) ∧ -4 ≤ s_earn (R 7) (R 3) (S 5).toNat n 0 0 ∧ s_earn (R 7) (R 3) (S 5).toNat n 0 0 ≤ 1000 := by
  obtain ⟨k, k1⟩ := m_earned_L (h := h) (m := m) (S := S) hR hM hT (S 5).toNat FUEL n 0 0 (by omega) (by unfold FUEL; omega) n0 n1 (by omega) (by omega) (by omega) (by omega)
  rw [Int.toNat_of_nonneg hO.1] at k
  refine ⟨?_, k1⟩
  unfold fX4_earned
  rw [if_pos (m_cls _ _ _ _), mi_orders, Option.bind_some, iI_sub, k]
  by_cases c : s_earn (R 7) (R 3) (S 5).toNat n 0 0 = -4
  · rw [if_pos c, c]; rfl
  · rw [if_neg c]; rfl
end MODEL
