/-! ===== the model's calls: what was seen; images; sheets ===== -/
/-- a row of 75 of st copied -/
def cpS (R : MR) (d s : Int) : MR := fun k i => if k = 0 ∧ d ≤ i ∧ i < d + 75 then R 0 (i - d + s) else R k i
def clr (R : MR) (b : Int) : MR := fun k i => if k = 11 ∧ b ≤ i ∧ i < b + 40 then 0 else R k i
/-- a number as a sheet of this lane keeps it -/
def s_cut (lane v : Int) : Int := if lane = 0 then (iI v).toInt8.toInt32.toInt else if lane = 1 then (iI v).toInt16.toInt32.toInt else v
section MODEL
variable {h : Hp} {m : Nat} {R : MR} {S : MSc} {nP nE : Int} {E : Nat}
theorem m_see (I : MI R S E) (c0 : 0 ≤ cur R 56) (c6 : cur R 56 ≤ 6) {p t k : Int} (p0 : -2147483648 ≤ p) (p1 : p < 2147483648) (t0 : -2147483648 ≤ t) (t1 : t < 2147483648) (k0 : -2147483648 ≤ k) (k1 : k < 2147483648) : fX4_see (mput h m R S) m (iI p) (iI t) (iI k) = some (if ¬ (0 ≤ p ∧ p ≤ S 3 - 1) ∨ ¬ (0 ≤ t ∧ t ≤ 99) ∨ ¬ (0 ≤ k ∧ k ≤ 5) then (iI (-1), mput h m R S) else if cur R 56 = 6 then (iI (-3), mput h m R S) else (iI (cur R 56 + 1), mput h m (up2 (up2 (up2 (up2 R 0 (57 + 3 * cur R 56) p) 0 (57 + 3 * cur R 56 + 1) t) 0 (57 + 3 * cur R 56 + 2) k) 0 56 (cur R 56 + 1)) S)) := by
  have s3 := I.s3
  rw [cur_in R (by omega) (by omega)] at c0 c6 ⊢
  unfold fX4_see
  simp (disch := omega) only [m_cls, Option.bind_some, Option.bind_none, ↓reduceIte, true_and, and_true, not_true_eq_false, not_false_eq_true, m_isPen, iI_b0, iI_long, lc2, lc3, lc4, lc5, lc6, lc8, lc9, lc10, lc20, lc30, lc48, lc57, lc97, lc99, lc122, lc127, m_in]
  by_cases q : 0 ≤ p ∧ p ≤ S 3 - 1
  · by_cases q2 : 0 ≤ t ∧ t ≤ 99
    · by_cases q3 : 0 ≤ k ∧ k ≤ 5
      · simp only [q, q2, q3, not_true_eq_false, or_self, Option.bind_some, Option.bind_none, ↓reduceIte, true_and, and_true, not_true_eq_false, not_false_eq_true]
        have u1 : ∀ v w x, (up2 (up2 (up2 R 0 (57 + 3 * R 0 56) v) 0 (57 + 3 * R 0 56 + 1) w) 0 (57 + 3 * R 0 56 + 2) x) 0 56 = R 0 56 := fun v w x => by rw [up2_ne (by omega), up2_ne (by omega), up2_ne (by omega)]
        simp (disch := omega) only [mr_st, Option.bind_some, Option.bind_none, ↓reduceIte, true_and, and_true, not_true_eq_false, not_false_eq_true, ma_st, iI_eq, iI_mul, iI_add, ms_st, u1, up2_eq]
        grind
      · simp only [q, q2, q3, not_true_eq_false, not_false_eq_true, or_true, false_or, Option.bind_some, Option.bind_none, ↓reduceIte, true_and, and_true, not_true_eq_false, not_false_eq_true]
    · simp only [q, q2, not_true_eq_false, not_false_eq_true, true_or, false_or, Option.bind_some, Option.bind_none, ↓reduceIte, true_and, and_true, not_true_eq_false, not_false_eq_true]
  · simp only [q, not_false_eq_true, true_or, Option.bind_some, Option.bind_none, ↓reduceIte, true_and, and_true, not_true_eq_false, not_false_eq_true]
theorem m_forget (c0 : 0 ≤ cur R 56) (c6 : cur R 56 ≤ 6) {n : Int} (p0 : -2147483648 ≤ n) (p1 : n < 2147483648) : fX4_forget (mput h m R S) m (iI n) = some (if 0 ≤ n ∧ n ≤ cur R 56 then (iI (cur R 56), mput h m (up2 R 0 56 n) S) else (iI (-1), mput h m R S)) := by
  rw [cur_in R (by omega) (by omega)] at c0 c6 ⊢
  unfold fX4_forget
  simp (disch := omega) only [m_cls, Option.bind_some, Option.bind_none, ↓reduceIte, true_and, and_true, not_true_eq_false, not_false_eq_true, mr_st, ma_st, iI_long, m_in, iI_b0, m_becomes]
  grind
theorem m_copies {d s : Int} (d0 : 0 ≤ d) (d1 : d ≤ 150) (s0 : 0 ≤ s) (s1 : s ≤ 150) (hds : d + 75 ≤ s ∨ s + 75 ≤ d) : fX4_copies (mput h m R S) m (iI d) (iI s) = some (mput h m (cpS R d s) S) := by
  obtain ⟨y, hy, e⟩ := lpI (L := fun n x i => fX4_copies_L2 m (iI d) (iI s) n (mput h m x S) i) (I := fun k x => x = fun k' i => if k' = 0 ∧ d ≤ i ∧ i < d + (k : Int) then R 0 (i - d + s) else R k' i) (E := 75) (out := fun x => mput h m x S) (fun n x _ => by
      show fX4_copies_L2 m (iI d) (iI s) (n + 1) (mput h m x S) (iI 75) = _
      rw [fX4_copies_L2, if_pos (by decide)]) (fun n k x hk hx => by
      refine ⟨up2 x 0 (d + k) (x 0 (s + k)), ?_, ?_⟩
      · subst hx
        funext k' i
        have e1 : ((k + 1 : Nat) : Int) = (k : Int) + 1 := rfl
        simp only [up2, e1]
        by_cases c : k' = 0 ∧ i = d + k
        · rw [if_pos c, if_neg (by omega), if_pos (by omega)]
          congr 1; omega
        · rw [if_neg c]
          by_cases c2 : k' = 0 ∧ d ≤ i ∧ i < d + (k : Int)
          · rw [if_pos c2, if_pos (by omega)]
          · rw [if_neg c2, if_neg (by omega)]
      · show fX4_copies_L2 m (iI d) (iI s) (n + 1) (mput h m x S) (iI k) = _
        rw [fX4_copies_L2]
        simp (disch := omega) only [iI_le, Option.bind_some, Option.bind_none, ↓reduceIte, true_and, and_true, not_true_eq_false, not_false_eq_true, mr_st, iI_add, ma_st, ms_st]
        rw [if_neg (by omega)]
        rfl) 75 0 FUEL R (by omega) (by unfold FUEL; omega) (by
      funext k' i
      rw [if_neg (by omega)])
  unfold fX4_copies
  rw [if_pos (m_cls _ _ _ _)]
  rw [iI_z] at e
  rw [e, Option.bind_some]
  subst hy
  rfl
theorem m_keep (hk : ∀ i, 0 ≤ i → i < 2 → R 2 i = 0 ∨ R 2 i = 1) {k : Int} (p0 : -2147483648 ≤ k) (p1 : k < 2147483648) : fX4_keep (mput h m R S) m (iI k) = some (if 0 ≤ k ∧ k ≤ 1 then (iI (R 2 k), mput h m (cpS (up2 R 2 k 1) (75 * (k + 1)) 0) S) else (iI (-1), mput h m R S)) := by
  unfold fX4_keep
  simp (disch := omega) only [m_cls, Option.bind_some, Option.bind_none, ↓reduceIte, true_and, and_true, not_true_eq_false, not_false_eq_true, iI_long, m_in, iI_b0]
  by_cases q : 0 ≤ k ∧ k ≤ 1
  · simp only [q, Option.bind_some, Option.bind_none, ↓reduceIte, true_and, and_true, not_true_eq_false, not_false_eq_true]
    have f1 : fX4_flag (iI (R 2 k)) = some (iI (R 2 k)) := by
      rcases hk k q.1 (by omega) with z | z <;> rw [z] <;> rfl
    simp (disch := omega) only [mr_isKept, Option.bind_some, Option.bind_none, ↓reduceIte, true_and, and_true, not_true_eq_false, not_false_eq_true, ma_isKept, f1, ms_isKept, iI_add, iI_mul, m_copies]
  · simp only [q, Option.bind_some, Option.bind_none, ↓reduceIte, true_and, and_true, not_true_eq_false, not_false_eq_true]
theorem m_back (hk : ∀ i, 0 ≤ i → i < 2 → R 2 i = 0 ∨ R 2 i = 1) {k : Int} (p0 : -2147483648 ≤ k) (p1 : k < 2147483648) : fX4_back (mput h m R S) m (iI k) = some (if ¬ (0 ≤ k ∧ k ≤ 1) then (iI (-1), mput h m R S) else if R 2 k = 0 then (iI (-2), mput h m R S) else (iI (R 0 (75 * (k + 1) + 55)), mput h m (cpS R 0 (75 * (k + 1))) S)) := by
  unfold fX4_back
  simp (disch := omega) only [m_cls, Option.bind_some, Option.bind_none, ↓reduceIte, true_and, and_true, not_true_eq_false, not_false_eq_true, iI_long, m_in, iI_b0]
  by_cases q : 0 ≤ k ∧ k ≤ 1
  · simp only [q, Option.bind_some, Option.bind_none, ↓reduceIte, true_and, and_true, not_true_eq_false, not_false_eq_true]
    have hz := hk k q.1 (by omega)
    have w : (cpS R 0 (75 * (k + 1))) 0 55 = R 0 (75 * (k + 1) + 55) := by
      unfold cpS
      rw [if_pos ⟨rfl, by omega, by omega⟩]
      congr 1; omega
    simp (disch := omega) only [mr_isKept, Option.bind_some, Option.bind_none, ↓reduceIte, true_and, and_true, not_true_eq_false, not_false_eq_true, ma_isKept, iI_eq0, iI_add, iI_mul, m_copies, mr_st, ma_st, w]
    grind
  · simp only [q, Option.bind_some, Option.bind_none, ↓reduceIte, true_and, and_true, not_true_eq_false, not_false_eq_true]
theorem m_isSheet {k l : Int} (p0 : -2147483648 ≤ k) (p1 : k < 2147483648) (l0 : -2147483648 ≤ l) (l1 : l < 2147483648) : fX4_isSheet (iI k) (iI l) = some (iI (if (0 ≤ k ∧ k ≤ 3) ∧ (0 ≤ l ∧ l ≤ 2) then 1 else 0)) := by
  unfold fX4_isSheet
  simp (disch := omega) only [iI_long, lc2, lc3, lc4, lc5, lc6, lc8, lc9, lc10, lc20, lc30, lc48, lc57, lc97, lc99, lc122, lc127, m_in, Option.bind_some, Option.bind_none, ↓reduceIte, true_and, and_true, not_true_eq_false, not_false_eq_true, iI_b0]
  grind
theorem m_sheet {k l n : Int} (p0 : -2147483648 ≤ k) (p1 : k < 2147483648) (l0 : -2147483648 ≤ l) (l1 : l < 2147483648) (n0 : -2147483648 ≤ n) (n1 : n < 2147483648) : fX4_sheet (mput h m R S) m (iI k) (iI l) (iI n) = some (if ¬ ((0 ≤ k ∧ k ≤ 3) ∧ (0 ≤ l ∧ l ≤ 2)) ∨ 40 < n then (iI (-1), mput h m R S) else if n < 0 then (iI (-14), mput h m R S) else (iI 1, mput h m (clr (up2 (up2 R 9 k l) 10 k n) (40 * k)) S)) := by
  unfold fX4_sheet
  simp (disch := omega) only [m_cls, Option.bind_some, Option.bind_none, ↓reduceIte, true_and, and_true, not_true_eq_false, not_false_eq_true, m_isSheet, iI_b0, iI_le, iI_0le]
  by_cases q : (0 ≤ k ∧ k ≤ 3) ∧ (0 ≤ l ∧ l ≤ 2)
  · by_cases q2 : n ≤ 40
    · by_cases q3 : 0 ≤ n
      · have hL : ∀ X : MR, fX4_sheet_L40 m (iI k) FUEL (mput h m X S) (iI 0) = some (mput h m (clr X (40 * k)) S) := by
          intro X
          obtain ⟨y, hy, e⟩ := lpI (L := fun f x i => fX4_sheet_L40 m (iI k) f (mput h m x S) i) (I := fun j x => x = fun k' i => if k' = 11 ∧ 40 * k ≤ i ∧ i < 40 * k + (j : Int) then 0 else X k' i) (E := 40) (out := fun x => mput h m x S) (fun f x _ => by
              show fX4_sheet_L40 m (iI k) (f + 1) (mput h m x S) (iI 40) = _
              rw [fX4_sheet_L40, if_pos (by decide)]) (fun f j x hj hx => by
              refine ⟨up2 x 11 (40 * k + j) 0, ?_, ?_⟩
              · subst hx
                funext k' i
                have e1 : ((j + 1 : Nat) : Int) = (j : Int) + 1 := rfl
                simp only [up2, e1]
                grind
              · show fX4_sheet_L40 m (iI k) (f + 1) (mput h m x S) (iI j) = _
                rw [fX4_sheet_L40]
                simp (disch := omega) only [iI_le, Option.bind_some, Option.bind_none, ↓reduceIte, true_and, and_true, not_true_eq_false, not_false_eq_true, mr_cells, iI_mul, iI_add, ms_cells]
                rw [if_neg (by omega)]
                rfl) 40 0 FUEL X (by omega) (by unfold FUEL; omega) (by
              funext k' i
              rw [if_neg (by omega)])
          rw [iI_z] at e
          rw [e]
          subst hy
          rfl
        have z1 : ¬ 40 < n := by omega
        have z2 : ¬ n < 0 := by omega
        simp only [q, q2, q3, z1, z2, not_true_eq_false, or_self, and_self, Option.bind_some, Option.bind_none, ↓reduceIte, true_and, and_true, not_true_eq_false, not_false_eq_true]
        simp (disch := omega) only [mr_lanes, ms_lanes, mr_sizes, ms_sizes, Option.bind_some, Option.bind_none, ↓reduceIte, true_and, and_true, not_true_eq_false, not_false_eq_true, hL]
      · have z1 : ¬ 40 < n := by omega
        have z2 : n < 0 := by omega
        simp only [q, q2, q3, z1, z2, not_true_eq_false, or_self, and_self, Option.bind_some, Option.bind_none, ↓reduceIte, true_and, and_true, not_true_eq_false, not_false_eq_true]
    · simp only [q, q2, Option.bind_some, Option.bind_none, ↓reduceIte, true_and, and_true, not_true_eq_false, not_false_eq_true]
      rw [if_pos (by omega)]
  · simp only [q, Option.bind_some, Option.bind_none, ↓reduceIte, true_and, and_true, not_true_eq_false, not_false_eq_true]
    rw [if_pos (Or.inl (by simp))]
theorem m_torn : fX4_torn (mput h m R S) m = some (iI (S 30)) := by
  unfold fX4_torn
  simp (disch := omega) only [m_cls, Option.bind_some, Option.bind_none, ↓reduceIte, true_and, and_true, not_true_eq_false, not_false_eq_true, mi_torn]
end MODEL
