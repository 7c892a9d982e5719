/-! ===== the model's call sale ===== -/
section MODEL
variable {h : Hp} {m : Nat} {R : MR} {S : MSc} {nP nE : Int} {E : Nat}
theorem m_bestSale (hR : v32R R) (hF : FI nP E (R 1)) (hE : S 4 = E) (hO : 0 ≤ S 5 ∧ S 5 ≤ 4) (d0 : 0 ≤ R 1 53) (d1 : R 1 53 < 16) (ht : ∀ o, 0 ≤ o → o < S 5 → 0 ≤ R 3 (8 * o + 0) ∧ R 3 (8 * o + 0) ≤ 5) (hM : ∀ o, 0 ≤ o → o < 4 → 0 ≤ R 7 o ∧ R 7 o < 32) (hT : ∀ o, 0 ≤ o → o < 4 → 0 ≤ R 3 (8 * o + 7) ∧ R 3 (8 * o + 7) ≤ 9) : fX4_bestSale (mput h m R S) m = some (iI (s_best ((setM R (R 1) E (S 5).toNat) 7) (R 3) (S 5).toNat (S 22) (6 ^ (S 5).toNat)).1, mput h m (setM R (R 1) E (S 5).toNat) (upS S 22 (s_best ((setM R (R 1) E (S 5).toNat) 7) (R 3) (S 5).toNat (S 22) (6 ^ (S 5).toNat)).2)) := by
  have f4 : (E : Int) ≤ 5 := hF.2.2.2.1
  have k1 := m_findMeeting (h := h) (m := m) hR hF hE hO d0 d1 ht
  have a3 : (setM R (R 1) E (S 5).toNat) 3 = R 3 := setM_n _ _ (by decide)
  have hM' : ∀ o, 0 ≤ o → o < 4 → 0 ≤ (setM R (R 1) E (S 5).toNat) 7 o ∧ (setM R (R 1) E (S 5).toNat) 7 o < 32 := by
    intro o o0 o1
    unfold setM
    split
    · exact s_mt_le (by omega) o
    · exact hM o o0 o1
  have k2 := m_bestSale_L (h := h) (m := m) (S := S) (R := setM R (R 1) E (S 5).toNat) (v32_setM hR (by omega) _ _) hO hM' (by rw [a3]; exact hT)
  rw [a3] at k2
  unfold fX4_bestSale
  rw [if_pos (m_cls _ _ _ _), k1, Option.bind_some, k2]
  rfl
end MODEL
