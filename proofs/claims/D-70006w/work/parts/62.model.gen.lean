/-! ===== the model's methods, plainly: the farm at hand (array 1) ===== -/
theorem lI_toInt {z : Int} (h1 : -9223372036854775808 ≤ z) (h2 : z < 9223372036854775808) : (lI z).toInt = z := Int64.toInt_ofInt_of_le (by simpa using h1) (by simpa using h2)
theorem iI_long {a : Int} (h1 : -2147483648 ≤ a) (h2 : a < 2147483648) : (iI a).toInt64 = lI a := by
  apply Int64.toInt_inj.mp
  rw [Int32.toInt_toInt64, iI_toInt h1 h2, lI_toInt (by omega) (by omega)]
theorem lI_lt {a b : Int} (h1 : -9223372036854775808 ≤ a) (h2 : a < 9223372036854775808) (h3 : -9223372036854775808 ≤ b) (h4 : b < 9223372036854775808) : (lI a < lI b) = (a < b) := by
  rw [Int64.lt_iff_toInt_lt, lI_toInt h1 h2, lI_toInt h3 h4]
theorem lI_eq {a b : Int} (h1 : -9223372036854775808 ≤ a) (h2 : a < 9223372036854775808) (h3 : -9223372036854775808 ≤ b) (h4 : b < 9223372036854775808) : (lI a = lI b) = (a = b) := by
  rw [← Int64.toInt_inj, lI_toInt h1 h2, lI_toInt h3 h4]
theorem lI_cmp {a b : Int} (h1 : -9223372036854775808 ≤ a) (h2 : a < 9223372036854775808) (h3 : -9223372036854775808 ≤ b) (h4 : b < 9223372036854775808) : lg_cmp (lI a) (lI b) = iI (if b < a then 1 else if a = b then 0 else -1) := by
  have e1 := lI_lt h3 h4 h1 h2
  have e2 := lI_eq h1 h2 h3 h4
  unfold lg_cmp
  simp only [gt_iff_lt, e1, e2]
  by_cases q : b < a
  · rw [if_pos q, if_pos q]; rfl
  · rw [if_neg q, if_neg q]
    by_cases q2 : a = b
    · rw [if_pos q2, if_pos q2]; rfl
    · rw [if_neg q2, if_neg q2]; rfl
theorem lI_cmp_lt {a b : Int} (h1 : -9223372036854775808 ≤ a) (h2 : a < 9223372036854775808) (h3 : -9223372036854775808 ≤ b) (h4 : b < 9223372036854775808) : (lg_cmp (lI a) (lI b) < 0) = (a < b) := by
  rw [lI_cmp h1 h2 h3 h4, iI_lt0 (by split <;> (try split) <;> omega) (by split <;> (try split) <;> omega)]
  apply propext
  split
  · omega
  · split <;> omega
theorem lI_cmp_gt {a b : Int} (h1 : -9223372036854775808 ≤ a) (h2 : a < 9223372036854775808) (h3 : -9223372036854775808 ≤ b) (h4 : b < 9223372036854775808) : (0 < lg_cmp (lI a) (lI b)) = (b < a) := by
  rw [lI_cmp h1 h2 h3 h4, iI_0lt (by split <;> (try split) <;> omega) (by split <;> (try split) <;> omega)]
  apply propext
  split
  · omega
  · split <;> omega
theorem lI_cmp_eq {a b : Int} (h1 : -9223372036854775808 ≤ a) (h2 : a < 9223372036854775808) (h3 : -9223372036854775808 ≤ b) (h4 : b < 9223372036854775808) : (lg_cmp (lI a) (lI b) = 0) = (a = b) := by
  rw [lI_cmp h1 h2 h3 h4, iI_eq0 (by split <;> (try split) <;> omega) (by split <;> (try split) <;> omega)]
  apply propext
  split
  · omega
  · split <;> omega
theorem m_flag (c : Prop) [Decidable c] : fX4_flag (iI (if c then 1 else 0)) = some (iI (if c then 1 else 0)) := by
  unfold fX4_flag
  by_cases h : c
  · simp [h]; decide
  · simp [h]; decide
theorem m_in {a b c : Int} (h1 : -9223372036854775808 ≤ a) (h2 : a < 9223372036854775808) (h3 : -9223372036854775808 ≤ b) (h4 : b < 9223372036854775808) (h5 : -9223372036854775808 ≤ c) (h6 : c < 9223372036854775808) : fX4_in (lI a) (lI b) (lI c) = some (iI (if b ≤ a ∧ a ≤ c then 1 else 0)) := by
  unfold fX4_in
  simp only [lI_cmp_lt h1 h2 h3 h4, lI_cmp_gt h1 h2 h5 h6]
  by_cases q : a < b
  · rw [if_pos q, if_neg (by omega)]
  · rw [if_neg q]
    by_cases q2 : c < a
    · rw [if_pos q2, if_neg (by omega)]
    · rw [if_neg q2, if_pos (by omega)]
theorem ckZ_b (c : Prop) [Decidable c] : ckZ (iI (if c then 1 else 0)) = some (iI (if c then 1 else 0)) := by
  unfold ckZ
  by_cases h : c
  · simp [h]; decide
  · simp [h]; decide

/-! what the farm's numbers say: a farm is one row of 75 numbers, as the model keeps it -/
def v32R (R : MR) : Prop := ∀ k i, -2147483648 ≤ R k i ∧ R k i < 2147483648
abbrev s_sold (a : Int → Int) (e : Int) : Prop := a (8 + 9 * e + 2) = -4
abbrev s_silent (a : Int → Int) (e : Int) : Prop := a (8 + 9 * e + 1) = 0 ∨ a (8 + 9 * e + 3) = 0
abbrev s_dist (a : Int → Int) (e : Int) : Int := a (2 * a (8 + 9 * e + 2) + 0)
def s_ret (a : Int → Int) (e : Int) : Int := if s_sold a e ∨ s_silent a e then 0 else if a (8 + 9 * e + 0) = 1 then 2 * (a (8 + 9 * e + 1) / s_dist a e) else if a (8 + 9 * e + 0) = 2 then a (8 + 9 * e + 1) / s_dist a e + 1 else a (8 + 9 * e + 1) / s_dist a e
def s_per (a : Int → Int) (e : Int) : Int := if s_sold a e then 0 else s_dist a e + a (8 + 9 * e + 3)
def s_last (a : Int → Int) (e : Int) : Int := if s_ret a e = 0 then -4 else s_per a e * (if a (8 + 9 * e + 0) = 2 then s_ret a e - 1 else s_ret a e)
abbrev s_heard (a : Int → Int) (e t : Int) : Prop := s_ret a e ≠ 0 ∧ (if t = 0 then a (8 + 9 * e + 0) = 2 else t ≤ s_last a e ∧ t % s_per a e = 0)
/-- a farm's numbers are as the text and the calls leave them: nP pens, nE echoes -/
def FI (nP nE : Int) (a : Int → Int) : Prop := 0 ≤ nP ∧ nP ≤ 4 ∧ 0 ≤ nE ∧ nE ≤ 5 ∧ (∀ p, 0 ≤ p → p < nP → 1 ≤ a (2 * p + 0) ∧ a (2 * p + 0) ≤ 9 ∧ 0 ≤ a (2 * p + 1) ∧ a (2 * p + 1) ≤ 4) ∧ (∀ e, 0 ≤ e → e < nE → 0 ≤ a (8 + 9 * e + 0) ∧ a (8 + 9 * e + 0) ≤ 3 ∧ 0 ≤ a (8 + 9 * e + 1) ∧ a (8 + 9 * e + 1) ≤ 99 ∧ (a (8 + 9 * e + 2) = -4 ∨ (0 ≤ a (8 + 9 * e + 2) ∧ a (8 + 9 * e + 2) < nP)) ∧ 0 ≤ a (8 + 9 * e + 3) ∧ a (8 + 9 * e + 3) ≤ 5) ∧ (∀ e i, 0 ≤ e → e < 5 → 0 ≤ i → i < 5 → 0 ≤ a (8 + 9 * e + (4 + i)) ∧ a (8 + 9 * e + (4 + i)) ≤ 127)
theorem iI_b0 (c : Prop) [Decidable c] : (iI (if c then 1 else 0) = 0) = ¬ c := by by_cases q : c <;> simp [q] <;> decide
theorem iI_b1 (c : Prop) [Decidable c] : (iI (if c then 1 else 0) = iI 1) = c := by by_cases q : c <;> simp [q] <;> decide
section MODEL
variable {h : Hp} {m : Nat} {R : MR} {S : MSc} {nP nE : Int}
theorem m_isSold (hR : v32R R) {e : Int} (h0 : 0 ≤ e) (h5 : e < 5) : fX4_isSold (mput h m R S) m (iI e) = some (iI (if s_sold (R 1) e then 1 else 0)) := by
  have p := hR 1 (8 + 9 * e + 2)
  unfold fX4_isSold
  simp (disch := omega) only [m_cls, Option.bind_some, Option.bind_none, ↓reduceIte, true_and, and_true, not_true_eq_false, not_false_eq_true, m_of, iI_eq]
  grind
theorem m_isSilent (hR : v32R R) {e : Int} (h0 : 0 ≤ e) (h5 : e < 5) : fX4_isSilent (mput h m R S) m (iI e) = some (iI (if s_silent (R 1) e then 1 else 0)) := by
  have p := hR 1 (8 + 9 * e + 1)
  have p2 := hR 1 (8 + 9 * e + 3)
  unfold fX4_isSilent
  simp (disch := omega) only [m_cls, Option.bind_some, Option.bind_none, ↓reduceIte, true_and, and_true, not_true_eq_false, not_false_eq_true, m_of, iI_eq0]
  grind
theorem m_distanceOf {e : Int} (h0 : 0 ≤ e) (h5 : e < 5) (hp0 : 0 ≤ R 1 (8 + 9 * e + 2)) (hp4 : R 1 (8 + 9 * e + 2) < 4) : fX4_distanceOf (mput h m R S) m (iI e) = some (iI (s_dist (R 1) e)) := by
  unfold fX4_distanceOf
  simp (disch := omega) only [m_cls, Option.bind_some, Option.bind_none, ↓reduceIte, true_and, and_true, not_true_eq_false, not_false_eq_true, m_of, mr_at, iI_mul, iI_add, ma_at]
/-- an echo in its pen -/
theorem FI.pen {nP nE : Int} {a : Int → Int} (hF : FI nP nE a) {e : Int} (h0 : 0 ≤ e) (h5 : e < nE) (q : ¬ s_sold a e) : 0 ≤ a (8 + 9 * e + 2) ∧ a (8 + 9 * e + 2) < 4 ∧ a (8 + 9 * e + 2) < nP ∧ 1 ≤ s_dist a e ∧ s_dist a e ≤ 9 := by
  obtain ⟨f1, f2, f3, f4, f5, f6, f7⟩ := hF
  obtain ⟨g1, g2, g3, g4, g5, g6, g7⟩ := f6 e h0 h5
  have g8 : 0 ≤ a (8 + 9 * e + 2) ∧ a (8 + 9 * e + 2) < nP := by rcases g5 with z | z; exact absurd z q; exact z
  obtain ⟨d1, d2, -, -⟩ := f5 _ g8.1 g8.2
  exact ⟨g8.1, by omega, g8.2, d1, d2⟩
theorem FI.ech {nP nE : Int} {a : Int → Int} (hF : FI nP nE a) {e : Int} (h0 : 0 ≤ e) (h5 : e < nE) : 0 ≤ a (8 + 9 * e + 0) ∧ a (8 + 9 * e + 0) ≤ 3 ∧ 0 ≤ a (8 + 9 * e + 1) ∧ a (8 + 9 * e + 1) ≤ 99 ∧ -4 ≤ a (8 + 9 * e + 2) ∧ a (8 + 9 * e + 2) < 4 ∧ 0 ≤ a (8 + 9 * e + 3) ∧ a (8 + 9 * e + 3) ≤ 5 ∧ e < 5 := by
  obtain ⟨f1, f2, f3, f4, f5, f6, f7⟩ := hF
  obtain ⟨g1, g2, g3, g4, g5, g6, g7⟩ := f6 e h0 h5
  exact ⟨g1, g2, g3, g4, by omega, by omega, g6, g7, by omega⟩
theorem s_ret_le {nP nE : Int} {a : Int → Int} (hF : FI nP nE a) {e : Int} (h0 : 0 ≤ e) (h5 : e < nE) : 0 ≤ s_ret a e ∧ s_ret a e ≤ 198 := by
  obtain ⟨g1, g2, g3, g4, g5, g6, g7, g8, g9⟩ := hF.ech h0 h5
  unfold s_ret
  by_cases q : s_sold a e ∨ s_silent a e
  · rw [if_pos q]; omega
  · rw [if_neg q]
    obtain ⟨p1, p2, p3, d1, d2⟩ := hF.pen h0 h5 (fun z => q (Or.inl z))
    have k1 : 0 ≤ a (8 + 9 * e + 1) / s_dist a e := Int.ediv_nonneg g3 (by omega)
    have k2 : a (8 + 9 * e + 1) / s_dist a e ≤ 99 := Int.le_trans (Int.ediv_le_self _ g3) g4
    split
    · omega
    · split <;> omega
theorem s_per_le {nP nE : Int} {a : Int → Int} (hF : FI nP nE a) {e : Int} (h0 : 0 ≤ e) (h5 : e < nE) : 0 ≤ s_per a e ∧ s_per a e ≤ 14 ∧ (s_ret a e ≠ 0 → 1 ≤ s_per a e) := by
  obtain ⟨g1, g2, g3, g4, g5, g6, g7, g8, g9⟩ := hF.ech h0 h5
  unfold s_per
  by_cases q : s_sold a e
  · rw [if_pos q]
    refine ⟨by omega, by omega, fun z => absurd (by unfold s_ret; rw [if_pos (Or.inl q)]) z⟩
  · rw [if_neg q]
    obtain ⟨p1, p2, p3, d1, d2⟩ := hF.pen h0 h5 q
    exact ⟨by omega, by omega, fun _ => by omega⟩
theorem m_returnsOf (hR : v32R R) (hF : FI nP nE (R 1)) {e : Int} (h0 : 0 ≤ e) (h5 : e < nE) : fX4_returnsOf (mput h m R S) m (iI e) = some (iI (s_ret (R 1) e)) := by
  obtain ⟨g1, g2, g3, g4, g5, g6, g7, g8, g9⟩ := hF.ech h0 h5
  unfold fX4_returnsOf
  simp (disch := omega) only [m_cls, Option.bind_some, Option.bind_none, ↓reduceIte, true_and, and_true, not_true_eq_false, not_false_eq_true, m_isSold hR, m_isSilent hR, iI_b0]
  by_cases q : s_sold (R 1) e
  · unfold s_ret; rw [if_neg (fun z => z q), if_pos (Or.inl q)]
  · rw [if_pos q]
    by_cases q2 : s_silent (R 1) e
    · unfold s_ret; rw [if_neg (fun z => z q2), if_pos (Or.inr q2)]
    · rw [if_pos q2]
      obtain ⟨p1, p2, p3, d1, d2⟩ := hF.pen h0 h5 q
      simp (disch := omega) only [m_of, m_distanceOf, Option.bind_some, Option.bind_none, ↓reduceIte, true_and, and_true, not_true_eq_false, not_false_eq_true, iI_dv, iI_eq, iI_mul, iI_add]
      unfold s_ret
      grind
theorem m_periodOf (hR : v32R R) (hF : FI nP nE (R 1)) {e : Int} (h0 : 0 ≤ e) (h5 : e < nE) : fX4_periodOf (mput h m R S) m (iI e) = some (iI (s_per (R 1) e)) := by
  obtain ⟨g1, g2, g3, g4, g5, g6, g7, g8, g9⟩ := hF.ech h0 h5
  unfold fX4_periodOf
  simp (disch := omega) only [m_cls, Option.bind_some, Option.bind_none, ↓reduceIte, true_and, and_true, not_true_eq_false, not_false_eq_true, m_isSold hR, iI_b0]
  unfold s_per
  by_cases q : s_sold (R 1) e
  · rw [if_neg (fun z => z q), if_pos q]
  · rw [if_pos q, if_neg q]
    obtain ⟨p1, p2, p3, d1, d2⟩ := hF.pen h0 h5 q
    simp (disch := omega) only [m_of, m_distanceOf, Option.bind_some, Option.bind_none, ↓reduceIte, true_and, and_true, not_true_eq_false, not_false_eq_true, iI_add]
theorem m_lastHeard (hR : v32R R) (hF : FI nP nE (R 1)) {e : Int} (h0 : 0 ≤ e) (h5 : e < nE) : fX4_lastHeard (mput h m R S) m (iI e) = some (iI (s_last (R 1) e)) := by
  obtain ⟨g1, g2, g3, g4, g5, g6, g7, g8, g9⟩ := hF.ech h0 h5
  have r := s_ret_le hF h0 h5
  unfold fX4_lastHeard
  simp (disch := omega) only [m_cls, Option.bind_some, Option.bind_none, ↓reduceIte, true_and, and_true, not_true_eq_false, not_false_eq_true, m_returnsOf hR hF, m_periodOf hR hF, m_of, iI_eq0, iI_eq, iI_sub, ite_iI, iI_mul]
  unfold s_last
  grind
theorem s_last_le {nP nE : Int} {a : Int → Int} (hF : FI nP nE a) {e : Int} (h0 : 0 ≤ e) (h5 : e < nE) : -4 ≤ s_last a e ∧ s_last a e ≤ 2772 := by
  have r := s_ret_le hF h0 h5
  have p := s_per_le hF h0 h5
  unfold s_last
  split
  · omega
  · have k : 0 ≤ (if a (8 + 9 * e + 0) = 2 then s_ret a e - 1 else s_ret a e) ∧ (if a (8 + 9 * e + 0) = 2 then s_ret a e - 1 else s_ret a e) ≤ 198 := by split <;> omega
    generalize (if a (8 + 9 * e + 0) = 2 then s_ret a e - 1 else s_ret a e) = z at k
    have k1 : 0 ≤ s_per a e * z := Int.mul_nonneg p.1 k.1
    have k2 : s_per a e * z ≤ 14 * 198 := Int.mul_le_mul p.2.1 k.2 k.1 (by omega)
    omega
theorem m_isHeard (hR : v32R R) (hF : FI nP nE (R 1)) {e t : Int} (h0 : 0 ≤ e) (h5 : e < nE) (t0 : 0 ≤ t) (t1 : t < 1000) : fX4_isHeard (mput h m R S) m (iI e) (iI t) = some (iI (if s_heard (R 1) e t then 1 else 0)) := by
  obtain ⟨g1, g2, g3, g4, g5, g6, g7, g8, g9⟩ := hF.ech h0 h5
  have r := s_ret_le hF h0 h5
  have p := s_per_le hF h0 h5
  have z := s_last_le hF h0 h5
  unfold fX4_isHeard
  simp (disch := omega) only [m_cls, Option.bind_some, Option.bind_none, ↓reduceIte, true_and, and_true, not_true_eq_false, not_false_eq_true, m_returnsOf hR hF, m_periodOf hR hF, m_lastHeard hR hF, m_of, iI_eq0, iI_eq]
  by_cases q : s_ret (R 1) e = 0
  · grind
  · have p1 := p.2.2 q
    have w := Int.emod_nonneg t (show s_per (R 1) e ≠ 0 by omega)
    have w2 := Int.emod_lt_of_pos t (show 0 < s_per (R 1) e by omega)
    simp (disch := omega) only [iI_lt, iI_le, iI_rem, Option.bind_some, Option.bind_none, ↓reduceIte, true_and, and_true, not_true_eq_false, not_false_eq_true, iI_eq0, ite_iI, ckZ_b]
    grind
end MODEL
