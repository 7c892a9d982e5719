/-! ===== the model's best sale: meeting, the loop over numbers ===== -/
section MODEL
variable {h : Hp} {m : Nat} {R : MR} {S : MSc} {nP nE : Int} {E : Nat}
theorem s_mt_le {T a : Int → Int} {E : Nat} (hE : E ≤ 5) (o : Int) : 0 ≤ s_mt T a E o ∧ s_mt T a E o < 32 := bm_lt5 _ hE
theorem v32_setM (hR : v32R R) (hE : E ≤ 5) (a : Int → Int) (k : Nat) : v32R (setM R a E k) := by
  intro k' i
  unfold setM
  split
  · have := s_mt_le (T := R 3) (a := a) hE i; omega
  · exact hR k' i
theorem setM_n (a : Int → Int) (k : Nat) {j : Nat} (hj : j ≠ 7) : (setM R a E k) j = R j := by
  funext i; unfold setM; rw [if_neg (fun z => hj z.1)]
theorem m_findMeeting (hR : v32R R) (hF : FI nP E (R 1)) (hE : S 4 = E) (hO : 0 ≤ S 5 ∧ S 5 ≤ 4) (d0 : 0 ≤ R 1 53) (d1 : R 1 53 < 16) (ht : ∀ o, 0 ≤ o → o < S 5 → 0 ≤ R 3 (8 * o + 0) ∧ R 3 (8 * o + 0) ≤ 5) : fX4_findMeeting (mput h m R S) m = some (mput h m (setM R (R 1) E (S 5).toNat) S) := by
  have f4 : (E : Int) ≤ 5 := hF.2.2.2.1
  obtain ⟨y, hy, e⟩ := lpI (L := fun n x i => fX4_findMeeting_L2 m n (mput h m x S) i) (I := fun k x => x = setM R (R 1) E k) (E := (S 5).toNat) (out := fun x => mput h m x S) (fun n x _ => by
      show fX4_findMeeting_L2 m (n + 1) (mput h m x S) (iI ((S 5).toNat : Int)) = _
      rw [fX4_findMeeting_L2]
      simp (disch := omega) only [mi_orders, Option.bind_some, Option.bind_none, ↓reduceIte, true_and, and_true, not_true_eq_false, not_false_eq_true, iI_le]
      rw [if_pos (by omega)]) (fun n k x hk hx => by
      subst hx
      have a1 : (setM R (R 1) E k) 1 = R 1 := setM_n _ k (by decide)
      have a3 : (setM R (R 1) E k) 3 = R 3 := setM_n _ k (by decide)
      have t := ht k (by omega) (by omega)
      have ke := m_findM_E (h := h) (m := m) (S := S) (nP := nP) (E := E) (X := setM R (R 1) E k) (v32_setM hR (by omega) _ k) (by rw [a1]; exact hF) hE (by rw [a1]; exact d0) (by rw [a1]; exact d1) (o := k) (by omega) (by omega) (by rw [a3]; exact t.1) (by rw [a3]; exact t.2)
      rw [a1, a3] at ke
      refine ⟨_, rfl, ?_⟩
      show fX4_findMeeting_L2 m (n + 1) (mput h m _ S) (iI k) = fX4_findMeeting_L2 m n (mput h m _ S) (iI ((k + 1 : Nat) : Int))
      rw [fX4_findMeeting_L2]
      simp (disch := omega) only [mi_orders, Option.bind_some, Option.bind_none, ↓reduceIte, true_and, and_true, not_true_eq_false, not_false_eq_true, iI_le, mr_meeting, ms_meeting, ke]
      rw [if_neg (by omega), iI_s]
      congr 2
      funext k' i
      have e1 : ((k + 1 : Nat) : Int) = (k : Int) + 1 := rfl
      simp only [up2, setM, e1]
      grind) (S 5).toNat 0 FUEL R (by omega) (by unfold FUEL; omega) (by
      funext k' i
      unfold setM
      rw [if_neg (by omega)])
  unfold fX4_findMeeting
  rw [iI_z] at e
  rw [if_pos (m_cls _ _ _ _), e, hy]
  rfl
theorem m_bestSale_L (hR : v32R R) (hO : 0 ≤ S 5 ∧ S 5 ≤ 4) (hM : ∀ o, 0 ≤ o → o < 4 → 0 ≤ R 7 o ∧ R 7 o < 32) (hT : ∀ o, 0 ≤ o → o < 4 → 0 ≤ R 3 (8 * o + 7) ∧ R 3 (8 * o + 7) ≤ 9) : fX4_bestSale_L8 m FUEL (mput h m R S) (iI (-1)) (iI 0) = some (mput h m R (upS S 22 (s_best (R 7) (R 3) (S 5).toNat (S 22) (6 ^ (S 5).toNat)).2), iI (s_best (R 7) (R 3) (S 5).toNat (S 22) (6 ^ (S 5).toNat)).1) := by
  have pw : 6 ^ (S 5).toNat ≤ 1296 := by
    have : (S 5).toNat = 0 ∨ (S 5).toNat = 1 ∨ (S 5).toNat = 2 ∨ (S 5).toNat = 3 ∨ (S 5).toNat = 4 := by omega
    rcases this with z | z | z | z | z <;> rw [z] <;> decide
  have s5 : ∀ v, (upS S 22 v) 5 = S 5 := fun v => by unfold upS; rw [if_neg (by decide)]
  have s22 : ∀ v, (upS S 22 v) 22 = v := fun v => by unfold upS; rw [if_pos rfl]
  have ss : ∀ v w, upS (upS S 22 v) 22 w = upS S 22 w := fun v w => by funext k; unfold upS; split <;> rfl
  have kp := m_power ⟨(S 5).toNat, by omega⟩
  simp only [Int.toNat_of_nonneg hO.1] at kp
  generalize 6 ^ (S 5).toNat = P at pw kp ⊢
  obtain ⟨y, hy, e⟩ := lpI (L := fun n (z : Int × Int) i => fX4_bestSale_L8 m n (mput h m R (upS S 22 z.2)) (iI z.1) i) (I := fun k z => z = s_best (R 7) (R 3) (S 5).toNat (S 22) k ∧ -1 ≤ z.1 ∧ z.1 ≤ 1000) (E := P) (out := fun z => (mput h m R (upS S 22 z.2), iI z.1)) (fun n z _ => by
      show fX4_bestSale_L8 m (n + 1) (mput h m R (upS S 22 z.2)) (iI z.1) (iI (P : Int)) = _
      rw [fX4_bestSale_L8]
      simp only [mi_orders, s5, Option.bind_some, Option.bind_none, ↓reduceIte, true_and, and_true, not_true_eq_false, not_false_eq_true, kp]
      rw [if_pos (by rw [iI_le] <;> omega)]) (fun n k z hk hz => by
      obtain ⟨k1, k2⟩ := m_earned (h := h) (m := m) (S := upS S 22 z.2) hR (by rw [s5]; exact hO) hM hT (n := k) (by omega) (by omega)
      rw [s5] at k1 k2
      refine ⟨if s_earn (R 7) (R 3) (S 5).toNat k 0 0 ≤ z.1 then z else (s_earn (R 7) (R 3) (S 5).toNat k 0 0, k), ⟨by rw [hz.1]; rfl, by split <;> omega, by split <;> omega⟩, ?_⟩
      show fX4_bestSale_L8 m (n + 1) (mput h m R (upS S 22 z.2)) (iI z.1) (iI k) = fX4_bestSale_L8 m n (mput h m R (upS S 22 _)) (iI _) (iI ((k + 1 : Nat) : Int))
      rw [fX4_bestSale_L8]
      simp (disch := omega) only [mi_orders, s5, Option.bind_some, Option.bind_none, ↓reduceIte, true_and, and_true, not_true_eq_false, not_false_eq_true, kp, iI_le, k1, mi_saleNumber, s22]
      rw [if_neg (by omega), iI_s]
      by_cases c : s_earn (R 7) (R 3) (S 5).toNat k 0 0 ≤ z.1
      · simp only [c, Option.bind_some, Option.bind_none, ↓reduceIte, true_and, and_true, not_true_eq_false, not_false_eq_true, mp_saleNumber, ss]
      · simp only [c, Option.bind_some, Option.bind_none, ↓reduceIte, true_and, and_true, not_true_eq_false, not_false_eq_true, mp_saleNumber, ss]) P 0 FUEL (-1, S 22) (by omega) (by unfold FUEL; omega) ⟨rfl, by simp, by simp⟩
  rw [iI_z] at e
  have se : upS S 22 (S 22) = S := by
    funext k; unfold upS
    split
    · rename_i q; rw [q]
    · rfl
  rw [hy.1] at e
  have e2 : fX4_bestSale_L8 m FUEL (mput h m R (upS S 22 (S 22))) (iI (-1)) (iI 0) = _ := e
  rw [se] at e2
  exact e2
end MODEL
