/-! ===== the model's loops over echoes; letters; weeks ===== -/
theorem iI_s (e : Nat) : iI (e : Int) + iI 1 = iI ((e + 1 : Nat) : Int) := by rw [iI_add]; rfl
def f_in (a : Int → Int) (p : Int) : Int → Bool := fun e => decide (a (8 + 9 * e + 2) = p)
def f_sil (a : Int → Int) : Int → Bool := fun e => decide (s_silent a e)
def f_hd (a : Int → Int) (p t : Int) : Int → Bool := fun e => decide (a (8 + 9 * e + 2) = p ∧ s_heard a e t)
def s_vow (c : Int) : Int := if c = 97 then 0 else if c = 101 then 1 else if c = 105 then 2 else if c = 111 then 3 else if c = 117 then 4 else -4
/-- how many of the first n letters are the pen's vowel -/
def s_mat (a : Int → Int) (e : Int) : Nat → Int := fun n => cnt (fun i => decide (s_vow (a (8 + 9 * e + (4 + i))) = a (2 * a (8 + 9 * e + 2) + 1))) n
def s_grow (a : Int → Int) (e : Int) : Int := let k := s_mat a e (a (8 + 9 * e + 3)).toNat; if a (8 + 9 * e + 0) = 1 then 2 * k else if a (8 + 9 * e + 0) = 3 then 2 * k else if a (8 + 9 * e + 0) = 2 then (if k ≤ 1 then k else 1) else k
section MODEL
variable {h : Hp} {m : Nat} {R : MR} {S : MSc} {nP nE : Int} {E : Nat}
theorem m_inPen_L (hR : v32R R) (hE : S 4 = E) (h5 : E ≤ 5) {p : Int} (p0 : -2147483648 ≤ p) (p1 : p < 2147483648) : ∀ (n e : Nat), e ≤ E → E < e + n → fX4_inPen_L4 (mput h m R S) m (iI p) n (iI (bm (f_in (R 1) p) e)) (iI e) = some (iI (bm (f_in (R 1) p) E)) := by
  intro n
  induction n with
  | zero => intro e h1 h2; omega
  | succ n ih =>
    intro e h1 h2
    have q := hR 1 (8 + 9 * e + 2)
    rw [fX4_inPen_L4]
    simp (disch := omega) only [mi_echoes, Option.bind_some, Option.bind_none, ↓reduceIte, true_and, and_true, not_true_eq_false, not_false_eq_true, hE, iI_le]
    by_cases he : (E : Int) ≤ e
    · rw [if_pos he, show e = E by omega]
    · rw [if_neg he]
      simp (disch := omega) only [m_of, Option.bind_some, Option.bind_none, ↓reduceIte, true_and, and_true, not_true_eq_false, not_false_eq_true, iI_eq, ite_iI, m_flag]
      rw [bm_or (f_in (R 1) p) (by omega) rfl, iI_s]
      exact ih (e + 1) (by omega) (by omega)
theorem m_inPen (hR : v32R R) (hE : S 4 = E) (h5 : E ≤ 5) {p : Int} (p0 : -2147483648 ≤ p) (p1 : p < 2147483648) : fX4_inPen (mput h m R S) m (iI p) = some (iI (bm (f_in (R 1) p) E)) := by
  unfold fX4_inPen
  simp only [m_cls, Option.bind_some, Option.bind_none, ↓reduceIte, true_and, and_true, not_true_eq_false, not_false_eq_true]
  rw [show iI 0 = iI (bm (f_in (R 1) p) 0) from rfl, show iI (bm (f_in (R 1) p) 0) = iI (bm (f_in (R 1) p) 0) from rfl]
  have k := m_inPen_L (h := h) (m := m) hR hE h5 p0 p1 FUEL 0 (by omega) (by unfold FUEL; omega)
  rw [show iI (bm (f_in (R 1) p) 0) = iI 0 from rfl, show iI ((0 : Nat) : Int) = iI 0 from rfl] at k
  rw [show iI (bm (f_in (R 1) p) 0) = iI 0 from rfl, k]
  rfl
theorem m_silentNow_L (hR : v32R R) (hE : S 4 = E) (h5 : E ≤ 5) : ∀ (n e : Nat), e ≤ E → E < e + n → fX4_silentNow_L4 (mput h m R S) m n (iI (bm (f_sil (R 1)) e)) (iI e) = some (iI (bm (f_sil (R 1)) E)) := by
  intro n
  induction n with
  | zero => intro e h1 h2; omega
  | succ n ih =>
    intro e h1 h2
    rw [fX4_silentNow_L4]
    simp (disch := omega) only [mi_echoes, Option.bind_some, Option.bind_none, ↓reduceIte, true_and, and_true, not_true_eq_false, not_false_eq_true, hE, iI_le]
    by_cases he : (E : Int) ≤ e
    · rw [if_pos he, show e = E by omega]
    · rw [if_neg he]
      simp (disch := omega) only [m_isSilent hR, Option.bind_some, Option.bind_none, ↓reduceIte, true_and, and_true, not_true_eq_false, not_false_eq_true, m_flag]
      rw [bm_or (f_sil (R 1)) (by omega) rfl, iI_s]
      exact ih (e + 1) (by omega) (by omega)
theorem m_silentNow (hR : v32R R) (hE : S 4 = E) (h5 : E ≤ 5) : fX4_silentNow (mput h m R S) m = some (iI (bm (f_sil (R 1)) E)) := by
  unfold fX4_silentNow
  simp only [m_cls, Option.bind_some, Option.bind_none, ↓reduceIte, true_and, and_true, not_true_eq_false, not_false_eq_true]
  have k := m_silentNow_L (h := h) (m := m) hR hE h5 FUEL 0 (by omega) (by unfold FUEL; omega)
  rw [show iI (bm (f_sil (R 1)) 0) = iI 0 from rfl, show iI ((0 : Nat) : Int) = iI 0 from rfl] at k
  rw [k]
  rfl
theorem m_heardIn_L (hR : v32R R) (hF : FI nP E (R 1)) (hE : S 4 = E) {p t : Int} (p0 : -2147483648 ≤ p) (p1 : p < 2147483648) (t0 : 0 ≤ t) (t1 : t < 1000) : ∀ (n e : Nat), e ≤ E → E < e + n → fX4_heardIn_L5 (mput h m R S) m (iI p) (iI t) n (iI (bm (f_hd (R 1) p t) e)) (iI e) = some (iI (bm (f_hd (R 1) p t) E)) := by
  have h5 : (E : Int) ≤ 5 := hF.2.2.2.1
  intro n
  induction n with
  | zero => intro e h1 h2; omega
  | succ n ih =>
    intro e h1 h2
    have q := hR 1 (8 + 9 * e + 2)
    rw [fX4_heardIn_L5]
    simp (disch := omega) only [mi_echoes, Option.bind_some, Option.bind_none, ↓reduceIte, true_and, and_true, not_true_eq_false, not_false_eq_true, hE, iI_le]
    by_cases he : (E : Int) ≤ e
    · rw [if_pos he, show e = E by omega]
    · rw [if_neg he]
      simp (disch := omega) only [m_of, Option.bind_some, Option.bind_none, ↓reduceIte, true_and, and_true, not_true_eq_false, not_false_eq_true, iI_eq, m_isHeard hR hF, iI_b0]
      have key : (if R 1 (8 + 9 * ↑e + 2) = p then if ¬s_heard (R 1) ↑e t then some (iI 0) else some (iI 1) else some (iI 0)) = some (iI (if R 1 (8 + 9 * ↑e + 2) = p ∧ s_heard (R 1) ↑e t then 1 else 0)) := by grind
      first
        | rw [key]
        | simp only [key]
      simp only [Option.bind_some, Option.bind_none, ↓reduceIte, true_and, and_true, not_true_eq_false, not_false_eq_true, m_flag]
      rw [bm_or (f_hd (R 1) p t) (by omega) rfl, iI_s]
      exact ih (e + 1) (by omega) (by omega)
theorem m_heardIn (hR : v32R R) (hF : FI nP E (R 1)) (hE : S 4 = E) {p t : Int} (p0 : -2147483648 ≤ p) (p1 : p < 2147483648) (t0 : 0 ≤ t) (t1 : t < 1000) : fX4_heardIn (mput h m R S) m (iI p) (iI t) = some (iI (bm (f_hd (R 1) p t) E)) := by
  have h5 : (E : Int) ≤ 5 := hF.2.2.2.1
  unfold fX4_heardIn
  simp only [m_cls, Option.bind_some, Option.bind_none, ↓reduceIte, true_and, and_true, not_true_eq_false, not_false_eq_true]
  have k := m_heardIn_L (h := h) (m := m) hR hF hE p0 p1 t0 t1 FUEL 0 (by omega) (by unfold FUEL; omega)
  rw [show iI (bm (f_hd (R 1) p t) 0) = iI 0 from rfl, show iI ((0 : Nat) : Int) = iI 0 from rfl] at k
  rw [k]
  rfl
theorem m_vowelOf {c : Int} (c0 : -2147483648 ≤ c) (c1 : c < 2147483648) : fX4_vowelOf (iI c) = some (iI (s_vow c)) := by
  unfold fX4_vowelOf s_vow
  simp (disch := omega) only [iI_eq]
  grind
theorem m_isWildOne (hR : v32R R) {e : Int} (h0 : 0 ≤ e) (h5 : e < 5) : fX4_isWildOne (mput h m R S) m (iI e) = some (iI (if R 1 (8 + 9 * e + 0) = 3 ∧ ¬ s_silent (R 1) e then 1 else 0)) := by
  have p := hR 1 (8 + 9 * e + 0)
  unfold fX4_isWildOne
  simp (disch := omega) only [m_cls, Option.bind_some, Option.bind_none, ↓reduceIte, true_and, and_true, not_true_eq_false, not_false_eq_true, m_of, iI_eq, m_isSilent hR, iI_b0]
  grind
theorem m_becomesOf {e w v : Int} (h1 : 0 ≤ 8 + 9 * e + w) (h2 : 8 + 9 * e + w < 75) : fX4_becomesOf (mput h m R S) m (iI e) (iI w) (iI v) = some (mput h m (up2 R 1 (8 + 9 * e + w) v) S) := by
  unfold fX4_becomesOf
  simp (disch := omega) only [m_cls, Option.bind_some, Option.bind_none, ↓reduceIte, true_and, and_true, not_true_eq_false, not_false_eq_true, mr_at, iI_add, iI_mul, ms_at]
theorem m_losesLetter (hR : v32R R) {e : Int} (h0 : 0 ≤ e) (h5 : e < 5) : fX4_losesLetter (mput h m R S) m (iI e) = some (mput h m (up2 R 1 (8 + 9 * e + 3) (if R 1 (8 + 9 * e + 3) ≤ 0 then 0 else R 1 (8 + 9 * e + 3) - 1)) S) := by
  have p := hR 1 (8 + 9 * e + 3)
  unfold fX4_losesLetter
  simp (disch := omega) only [m_cls, Option.bind_some, Option.bind_none, ↓reduceIte, true_and, and_true, not_true_eq_false, not_false_eq_true, m_of, iI_le0, iI_sub, ite_some, ite_iI, m_becomesOf]
end MODEL
