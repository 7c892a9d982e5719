/-! ===== the model's calls: what is heard; orders met ===== -/
/-- the echo's end is the order's word, the last k of its letters -/
def s_ends (T a : Int → Int) (e o : Int) : Nat → Bool
  | 0 => true
  | k + 1 => s_ends T a e o k && decide (a (8 + 9 * e + (4 + a (8 + 9 * e + 3) - T (8 * o + 0) + k)) = T (8 * o + 1 + k))
def s_so (T a : Int → Int) (e o : Int) : Bool := decide (T (8 * o + 0) ≤ a (8 + 9 * e + 3)) && s_ends T a e o (T (8 * o + 0)).toNat
def s_meet (T a : Int → Int) (e o : Int) : Bool := decide (s_bit (a 53) o = 0) && (!(decide (s_sold a e))) && decide (T (8 * o + 6) ≤ s_ret a e) && s_so T a e o
section MODEL
variable {h : Hp} {m : Nat} {R : MR} {S : MSc} {nP nE : Int} {E : Nat}
theorem m_heard (I : MI R S E) {p t : Int} (p0 : -2147483648 ≤ p) (p1 : p < 2147483648) (w0 : -2147483648 ≤ t) (w1 : t < 2147483648) : fX4_heard (mput h m R S) m (iI p) (iI t) = some (if ¬ (0 ≤ p ∧ p ≤ S 3 - 1) ∨ ¬ (0 ≤ t ∧ t ≤ 99) then (iI (-1), mput h m R S) else (iI (bm (f_hd (cur R) p t) E), mput h m (setA R (cur R)) S)) := by
  have s3 := I.s3
  unfold fX4_heard
  simp (disch := omega) only [m_cls, Option.bind_some, Option.bind_none, ↓reduceIte, true_and, and_true, not_true_eq_false, not_false_eq_true, m_isPen, iI_b0, iI_long, lc2, lc3, lc4, lc5, lc6, lc8, lc9, lc10, lc20, lc30, lc48, lc57, lc97, lc99, lc122, lc127, m_in]
  by_cases q : 0 ≤ p ∧ p ≤ S 3 - 1
  · by_cases q2 : 0 ≤ t ∧ t ≤ 99
    · simp only [q, q2, not_true_eq_false, or_self, Option.bind_some, Option.bind_none, ↓reduceIte, true_and, and_true, not_true_eq_false, not_false_eq_true]
      have k := m_heardIn (h := h) (m := m) (S := S) I.ats I.fi I.eE (p := p) (t := t) (by omega) (by omega) (by omega) (by omega)
      rw [setA_1] at k
      simp only [m_starts I.nf, Option.bind_some, Option.bind_none, ↓reduceIte, true_and, and_true, not_true_eq_false, not_false_eq_true, k]
    · simp only [q, q2, not_true_eq_false, not_false_eq_true, or_true, Option.bind_some, Option.bind_none, ↓reduceIte, true_and, and_true, not_true_eq_false, not_false_eq_true]
  · simp only [q, not_false_eq_true, true_or, Option.bind_some, Option.bind_none, ↓reduceIte, true_and, and_true, not_true_eq_false, not_false_eq_true]
/-- the first minute below t at which all are heard -/
def s_tog (a : Int → Int) (E : Nat) (p : Int) : Nat → Nat → Int
  | 0, _ => -4
  | d + 1, t => if bm (f_hd a p t) E = bm (f_in a p) E then t else s_tog a E p d (t + 1)
theorem m_together_L (I : MI R S E) {p : Int} (p0 : -2147483648 ≤ p) (p1 : p < 2147483648) (hne : bm (f_in (cur R) p) E ≠ 0) : ∀ (d t n : Nat), t + d = 100 → d < n → fX4_together_L22 (mput h m (setA R (cur R)) S) m (iI p) (iI (bm (f_in (cur R) p) E)) n (iI t) = some (if s_tog (cur R) E p d t = -4 then .inr () else .inl (iI (s_tog (cur R) E p d t), mput h m (setA R (cur R)) S)) := by
  have e5 := I.e5
  have b2 := bm_lt5 (f_in (cur R) p) e5
  intro d
  induction d with
  | zero =>
    intro t n h1 h2
    cases n with
    | zero => omega
    | succ n =>
      obtain rfl : t = 100 := by omega
      rw [fX4_together_L22, if_pos (by decide)]
      rfl
  | succ d ih =>
    intro t n h1 h2
    cases n with
    | zero => omega
    | succ n =>
      have b1 := bm_lt5 (f_hd (cur R) p t) e5
      have k := m_heardIn (h := h) (m := m) (S := S) I.ats I.fi I.eE (p := p) (t := t) (by omega) (by omega) (by omega) (by omega)
      rw [setA_1] at k
      rw [fX4_together_L22]
      simp (disch := omega) only [iI_le, iI_eq0, k, Option.bind_some, Option.bind_none, ↓reduceIte, true_and, and_true, not_true_eq_false, not_false_eq_true, iI_eq]
      rw [if_neg (by omega), if_neg hne, iI_s, ih (t + 1) n (by omega) (by omega)]
      rw [s_tog]
      by_cases c : bm (f_hd (cur R) p t) E = bm (f_in (cur R) p) E
      · rw [if_pos c, if_pos c, if_neg (by omega)]
      · rw [if_neg c, if_neg c]
theorem m_together (I : MI R S E) {p : Int} (p0 : -2147483648 ≤ p) (p1 : p < 2147483648) : fX4_together (mput h m R S) m (iI p) = some (if ¬ (0 ≤ p ∧ p ≤ S 3 - 1) then (iI (-1), mput h m R S) else (iI (if bm (f_in (cur R) p) E = 0 then -4 else s_tog (cur R) E p 100 0), mput h m (setA R (cur R)) S)) := by
  have s3 := I.s3
  have e5 := I.e5
  have b2 := bm_lt5 (f_in (cur R) p) e5
  unfold fX4_together
  simp (disch := omega) only [m_cls, Option.bind_some, Option.bind_none, ↓reduceIte, true_and, and_true, not_true_eq_false, not_false_eq_true, m_isPen, iI_b0]
  by_cases q : 0 ≤ p ∧ p ≤ S 3 - 1
  · simp only [q, Option.bind_some, Option.bind_none, ↓reduceIte, true_and, and_true, not_true_eq_false, not_false_eq_true]
    have k1 := m_inPen (h := h) (m := m) (p := p) I.ats I.eE e5 (by omega) (by omega)
    rw [setA_1] at k1
    simp only [m_starts I.nf, Option.bind_some, Option.bind_none, ↓reduceIte, true_and, and_true, not_true_eq_false, not_false_eq_true, k1]
    by_cases c : bm (f_in (cur R) p) E = 0
    · rw [if_pos c, show FUEL = (FUEL - 1) + 1 from rfl, fX4_together_L22]
      simp (disch := omega) only [iI_le, iI_eq0, c, Option.bind_some, Option.bind_none, ↓reduceIte, true_and, and_true, not_true_eq_false, not_false_eq_true]
      rfl
    · rw [if_neg c]
      have k2 := m_together_L (h := h) (m := m) I p0 p1 c 100 0 FUEL (by omega) (by unfold FUEL; omega)
      rw [iI_z] at k2
      rw [k2]
      by_cases c2 : s_tog (cur R) E p 100 0 = -4
      · rw [if_pos c2, c2]; rfl
      · rw [if_neg c2]; rfl
  · simp only [q, Option.bind_some, Option.bind_none, ↓reduceIte, true_and, and_true, not_true_eq_false, not_false_eq_true]
/-- the last minute at which one of the first k echoes in pen p is heard -/
def s_still (a : Int → Int) (p : Int) : Nat → Int
  | 0 => -4
  | k + 1 => if a (8 + 9 * k + 2) = p ∧ s_still a p k < s_last a k then s_last a k else s_still a p k
theorem m_still (I : MI R S E) {p : Int} (p0 : -2147483648 ≤ p) (p1 : p < 2147483648) : fX4_still (mput h m R S) m (iI p) = some (if ¬ (0 ≤ p ∧ p ≤ S 3 - 1) then (iI (-1), mput h m R S) else (iI (s_still (cur R) p E), mput h m (setA R (cur R)) S)) := by
  have s3 := I.s3
  have e5 := I.e5
  unfold fX4_still
  simp (disch := omega) only [m_cls, Option.bind_some, Option.bind_none, ↓reduceIte, true_and, and_true, not_true_eq_false, not_false_eq_true, m_isPen, iI_b0]
  by_cases q : 0 ≤ p ∧ p ≤ S 3 - 1
  · simp only [q, Option.bind_some, Option.bind_none, ↓reduceIte, true_and, and_true, not_true_eq_false, not_false_eq_true]
    obtain ⟨y, hy, e⟩ := lpI (L := fun n x i => fX4_still_L19 (mput h m (setA R (cur R)) S) m (iI p) n (iI x) i) (I := fun k x => x = s_still (cur R) p k ∧ -4 ≤ x ∧ x ≤ 2772) (E := E) (out := fun x => iI x) (fun n x _ => by
        show fX4_still_L19 (mput h m (setA R (cur R)) S) m (iI p) (n + 1) (iI x) (iI E) = _
        rw [fX4_still_L19]
        simp (disch := omega) only [mi_echoes, I.eE, Option.bind_some, Option.bind_none, ↓reduceIte, true_and, and_true, not_true_eq_false, not_false_eq_true, iI_le]
        rw [if_pos (Int.le_refl _)]) (fun n k x hk hx => by
        have g := I.fa.1.ech (e := k) (by omega) (by omega)
        have z := s_last_le I.fa.1 (e := k) (by omega) (by omega)
        have kl := m_lastHeard (h := h) (m := m) (S := S) I.ats I.fi (e := k) (by omega) (by omega)
        rw [setA_1] at kl
        refine ⟨if cur R (8 + 9 * k + 2) = p ∧ x < s_last (cur R) k then s_last (cur R) k else x, ⟨by rw [hx.1]; rfl, by split <;> omega, by split <;> omega⟩, ?_⟩
        show fX4_still_L19 (mput h m (setA R (cur R)) S) m (iI p) (n + 1) (iI x) (iI k) = fX4_still_L19 (mput h m (setA R (cur R)) S) m (iI p) n (iI _) (iI ((k + 1 : Nat) : Int))
        rw [fX4_still_L19]
        simp (disch := omega) only [mi_echoes, I.eE, Option.bind_some, Option.bind_none, ↓reduceIte, true_and, and_true, not_true_eq_false, not_false_eq_true, iI_le, m_of, setA_1, iI_eq, kl]
        rw [if_neg (by omega), iI_s]
        have key : (if cur R (8 + 9 * (k : Int) + 2) = p then if s_last (cur R) k ≤ x then some (iI x) else some (iI (s_last (cur R) k)) else some (iI x)) = some (iI (if cur R (8 + 9 * (k : Int) + 2) = p ∧ x < s_last (cur R) k then s_last (cur R) k else x)) := by grind
        rw [key]
        rfl) E 0 FUEL (-4) (by omega) (by unfold FUEL; omega) ⟨rfl, by omega, by omega⟩
    rw [iI_z] at e
    simp only [m_starts I.nf, Option.bind_some, Option.bind_none, ↓reduceIte, true_and, and_true, not_true_eq_false, not_false_eq_true, e, hy.1]
  · simp only [q, Option.bind_some, Option.bind_none, ↓reduceIte, true_and, and_true, not_true_eq_false, not_false_eq_true]
end MODEL
