/-! ===== the model's calls: cross; weeks ===== -/
/-- words of e and f changed, the first k of their numbers from MANY on -/
def s_cross (a : Int → Int) (e f k : Int) : Int → Int := fun i => if 8 + 9 * f + 3 ≤ i ∧ i < 8 + 9 * f + k then a (8 + 9 * e + (i - (8 + 9 * f))) else if 8 + 9 * e + 3 ≤ i ∧ i < 8 + 9 * e + k then a (8 + 9 * f + (i - (8 + 9 * e))) else a i
section MODEL
variable {h : Hp} {m : Nat} {R : MR} {S : MSc} {nP nE : Int} {E : Nat}
theorem m_cross_L (e f : Int) (e0 : 0 ≤ e) (e5 : e < 5) (f0 : 0 ≤ f) (f5 : f < 5) (hef : e ≠ f) : ∀ (d k n : Nat), k + d = 9 → d < n → 3 ≤ k → fX4_cross_L55 m (iI e) (iI f) n (mput h m (setC (setA R (cur R)) (s_cross (cur R) e f k)) S) (iI k) = some (mput h m (setC (setA R (cur R)) (s_cross (cur R) e f 9)) S) := by
  intro d
  induction d with
  | zero =>
    intro k n h1 h2 h3
    cases n with
    | zero => omega
    | succ n =>
      obtain rfl : k = 9 := by omega
      rw [fX4_cross_L55, if_pos (by decide)]
      rfl
  | succ d ih =>
    intro k n h1 h2 h3
    cases n with
    | zero => omega
    | succ n =>
      rw [fX4_cross_L55]
      have a1 : (setC (setA R (cur R)) (s_cross (cur R) e f k)) 1 = cur R := by
        funext i; unfold setC; rw [if_neg (by omega), setA_1]
      have a2 : ∀ v j, (up2 (setC (setA R (cur R)) (s_cross (cur R) e f k)) 0 j v) 1 = cur R := by
        intro v j; funext i; rw [up2_ne (by omega), a1]
      simp (disch := omega) only [iI_le, Option.bind_some, Option.bind_none, ↓reduceIte, true_and, and_true, not_true_eq_false, not_false_eq_true, mr_st, m_of, a1, a2, iI_mul, iI_add, ms_st]
      rw [if_neg (by omega), show (k : Int) + 1 = ((k + 1 : Nat) : Int) from rfl]
      refine Eq.trans ?_ (ih (k + 1) n (by omega) (by omega) (by omega))
      congr 2
      funext k' i
      have e1 : ((k + 1 : Nat) : Int) = (k : Int) + 1 := rfl
      simp only [up2, setC, s_cross, e1]
      by_cases c0 : k' = 0
      · subst c0
        by_cases c1 : i = 8 + 9 * f + k
        · subst c1
          rw [if_pos ⟨rfl, rfl⟩, if_pos (by omega), if_pos (by omega)]
          congr 1; omega
        · rw [if_neg (by omega)]
          by_cases c2 : i = 8 + 9 * e + k
          · subst c2
            rw [if_pos ⟨rfl, rfl⟩, if_pos (by omega), if_neg (by omega), if_pos (by omega)]
            congr 1; omega
          · rw [if_neg (by omega)]
            by_cases c3 : 0 ≤ i ∧ i < 75
            · have cc : (0 : Nat) = 0 ∧ 0 ≤ i ∧ i < 75 := ⟨rfl, c3⟩
              simp only [cc, if_true, and_self]
              by_cases c4 : 8 + 9 * f + 3 ≤ i ∧ i < 8 + 9 * f + k
              · rw [if_pos c4, if_pos (show 8 + 9 * f + 3 ≤ i ∧ i < 8 + 9 * f + ((k : Int) + 1) by omega)]
              · rw [if_neg c4, if_neg (show ¬ (8 + 9 * f + 3 ≤ i ∧ i < 8 + 9 * f + ((k : Int) + 1)) by omega)]
                by_cases c5 : 8 + 9 * e + 3 ≤ i ∧ i < 8 + 9 * e + k
                · rw [if_pos c5, if_pos (show 8 + 9 * e + 3 ≤ i ∧ i < 8 + 9 * e + ((k : Int) + 1) by omega)]
                · rw [if_neg c5, if_neg (show ¬ (8 + 9 * e + 3 ≤ i ∧ i < 8 + 9 * e + ((k : Int) + 1)) by omega)]
            · rw [if_neg (fun z => c3 z.2), if_neg (fun z => c3 z.2)]
      · rw [if_neg (by omega), if_neg (by omega), if_neg (by omega), if_neg (by omega)]
theorem m_cross (I : MI R S E) {e f : Int} (p0 : -2147483648 ≤ e) (p1 : e < 2147483648) (w0 : -2147483648 ≤ f) (w1 : f < 2147483648) : fX4_cross (mput h m R S) m (iI e) (iI f) = some (if ¬ (0 ≤ e ∧ e ≤ (E : Int) - 1) ∨ ¬ (0 ≤ f ∧ f ≤ (E : Int) - 1) ∨ e = f then (iI (-1), mput h m R S) else if s_sold (cur R) e ∨ cur R (8 + 9 * e + 2) ≠ cur R (8 + 9 * f + 2) then (iI (-2), mput h m (setA R (cur R)) S) else (iI (cur R (8 + 9 * f + 3)), mput h m (setC (setA R (cur R)) (s_cross (cur R) e f 9)) S)) := by
  have e5 := I.e5
  have s4 := I.s4
  unfold fX4_cross
  simp (disch := omega) only [m_cls, Option.bind_some, Option.bind_none, ↓reduceIte, true_and, and_true, not_true_eq_false, not_false_eq_true, m_isEcho, iI_b0, I.eE, iI_eq]
  by_cases q : 0 ≤ e ∧ e ≤ (E : Int) - 1
  · by_cases q2 : 0 ≤ f ∧ f ≤ (E : Int) - 1
    · by_cases q3 : e = f
      · simp only [q, q2, q3, or_true, Option.bind_some, Option.bind_none, ↓reduceIte, true_and, and_true, not_true_eq_false, not_false_eq_true]
      · have g := I.fa.1.ech (e := e) q.1 (by omega)
        have g2 := I.fa.1.ech (e := f) q2.1 (by omega)
        have k2 := m_isSold (h := h) (m := m) (S := S) I.ats (e := e) q.1 (by omega)
        rw [setA_1] at k2
        have k3 := m_cross_L (h := h) (m := m) (R := R) (S := S) e f q.1 (by omega) q2.1 (by omega) q3 6 3 FUEL (by omega) (by unfold FUEL; omega) (by omega)
        have z : setC (setA R (cur R)) (s_cross (cur R) e f ((3 : Nat) : Int)) = setA R (cur R) := by
          funext k i
          unfold setC s_cross
          by_cases c : k = 0 ∧ 0 ≤ i ∧ i < 75
          · rw [if_pos c, if_neg (by omega), if_neg (by omega), c.1, set0, cur_in R c.2.1 c.2.2]
          · rw [if_neg c]
        rw [z, show iI ((3 : Nat) : Int) = iI 3 from rfl] at k3
        have a1 : (setC (setA R (cur R)) (s_cross (cur R) e f 9)) 1 = cur R := by
          funext i; unfold setC; rw [if_neg (by omega), setA_1]
        simp only [q, q2, q3, not_true_eq_false, or_self, Option.bind_some, Option.bind_none, ↓reduceIte, true_and, and_true, not_true_eq_false, not_false_eq_true]
        simp (disch := omega) only [m_starts I.nf, Option.bind_some, Option.bind_none, ↓reduceIte, true_and, and_true, not_true_eq_false, not_false_eq_true, m_of, setA_1, k2, iI_b0]
        simp (disch := omega) only [iI_eq, k3, m_of, a1, Option.bind_some, Option.bind_none, ↓reduceIte, true_and, and_true, not_true_eq_false, not_false_eq_true]
        grind
    · simp only [q, q2, not_true_eq_false, not_false_eq_true, true_or, false_or, Option.bind_some, Option.bind_none, ↓reduceIte, true_and, and_true, not_true_eq_false, not_false_eq_true]
  · simp only [q, not_false_eq_true, true_or, Option.bind_some, Option.bind_none, ↓reduceIte, true_and, and_true, not_true_eq_false, not_false_eq_true]
theorem m_go (I : MI R S E) {n : Int} (p0 : -2147483648 ≤ n) (p1 : n < 2147483648) : fX4_go (mput h m R S) m (iI n) = some (if ¬ (0 ≤ n ∧ n ≤ 30) then (iI (-1), mput h m R S) else if cur R 54 + n ≤ 999 then (iI (cnt (fun e => f_sil (s_weeks E n.toNat (cur R)) e && !(f_sil (cur R) e)) E), mput h m (setC (setA R (s_weeks E n.toNat (cur R))) (s_weeks E n.toNat (cur R))) S) else (iI (-3), mput h m R S)) := by
  have e5 := I.e5
  have wk0 := I.wk0
  have wk1 := I.wk1
  rw [cur_in R (by omega) (by omega)] at wk0 wk1
  unfold fX4_go
  simp (disch := omega) only [m_cls, Option.bind_some, Option.bind_none, ↓reduceIte, true_and, and_true, not_true_eq_false, not_false_eq_true, iI_long, lc2, lc3, lc4, lc5, lc6, lc8, lc9, lc10, lc20, lc30, lc48, lc57, lc97, lc99, lc122, lc127, m_in, iI_b0]
  by_cases q : 0 ≤ n ∧ n ≤ 30
  · simp only [q, Option.bind_some, Option.bind_none, ↓reduceIte, true_and, and_true, not_true_eq_false, not_false_eq_true]
    simp (disch := omega) only [mr_st, Option.bind_some, Option.bind_none, ↓reduceIte, true_and, and_true, not_true_eq_false, not_false_eq_true, ma_st, iI_add, iI_le]
    rw [← cur_in R (i := 54) (by omega) (by omega)] at wk0 wk1 ⊢
    by_cases q2 : cur R 54 + n ≤ 999
    · rw [if_pos q2, if_pos q2]
      have w := I.fa.weeks wk0 n.toNat (by omega)
      have k1 := m_silentNow (h := h) (m := m) I.ats I.eE e5
      have k2 := m_weeksGo (h := h) (m := m) (R := setA R (cur R)) (S := S) (nP := S 3) (E := E) I.ats (by rw [setA_1]; exact I.fa) I.eE (n := n.toNat) (by omega) (by rw [setA_1]; omega) (by rw [setA_1]; omega)
      have k3 := m_silentNow (h := h) (m := m) (R := setA R (s_weeks E n.toNat (cur R))) (S := S) (E := E) (v32_setA I.v32 w.1.2.2) I.eE e5
      rw [setA_1] at k1 k3
      rw [setA_1, setA_setA, Int.toNat_of_nonneg q.1] at k2
      simp only [m_starts I.nf, Option.bind_some, Option.bind_none, ↓reduceIte, true_and, and_true, not_true_eq_false, not_false_eq_true, k1, k2, k3, bm_an _ _ e5, m_bitsOf _ e5, m_settles, setA_1]
    · rw [if_neg q2, if_neg q2]
  · simp only [q, Option.bind_some, Option.bind_none, ↓reduceIte, true_and, and_true, not_true_eq_false, not_false_eq_true]
theorem m_ahead (I : MI R S E) {e n w : Int} (e0 : -2147483648 ≤ e) (e1 : e < 2147483648) (p0 : -2147483648 ≤ n) (p1 : n < 2147483648) (w0 : -2147483648 ≤ w) (w1 : w < 2147483648) : fX4_ahead (mput h m R S) m (iI e) (iI n) (iI w) = some (if ¬ (0 ≤ e ∧ e ≤ (E : Int) - 1) ∨ ¬ (0 ≤ n ∧ n ≤ 30) ∨ ¬ (0 ≤ w ∧ w ≤ 2) then (iI (-1), mput h m R S) else (iI (if w = 0 then s_weeks E n.toNat (cur R) (8 + 9 * e + 1) else if w = 1 then s_weeks E n.toNat (cur R) (8 + 9 * e + 3) else s_ret (s_weeks E n.toNat (cur R)) e), mput h m (setA R (s_weeks E n.toNat (cur R))) S)) := by
  have e5 := I.e5
  have s4 := I.s4
  have wk0 := I.wk0
  have wk1 := I.wk1
  unfold fX4_ahead
  simp (disch := omega) only [m_cls, Option.bind_some, Option.bind_none, ↓reduceIte, true_and, and_true, not_true_eq_false, not_false_eq_true, m_isEcho, iI_long, lc2, lc3, lc4, lc5, lc6, lc8, lc9, lc10, lc20, lc30, lc48, lc57, lc97, lc99, lc122, lc127, m_in, iI_b0, I.eE]
  by_cases q : 0 ≤ e ∧ e ≤ (E : Int) - 1
  · by_cases q2 : 0 ≤ n ∧ n ≤ 30
    · by_cases q3 : 0 ≤ w ∧ w ≤ 2
      · simp only [q, q2, q3, not_true_eq_false, or_self, Option.bind_some, Option.bind_none, ↓reduceIte, true_and, and_true, not_true_eq_false, not_false_eq_true]
        have wk := I.fa.weeks wk0 n.toNat (by omega)
        have k2 := m_weeksGo (h := h) (m := m) (R := setA R (cur R)) (S := S) (nP := S 3) (E := E) I.ats (by rw [setA_1]; exact I.fa) I.eE (n := n.toNat) (by omega) (by rw [setA_1]; omega) (by rw [setA_1]; omega)
        have k3 := m_returnsOf (h := h) (m := m) (R := setA R (s_weeks E n.toNat (cur R))) (S := S) (nP := S 3) (nE := E) (v32_setA I.v32 wk.1.2.2) (by rw [setA_1]; exact wk.1.1) (e := e) q.1 (by omega)
        rw [setA_1, setA_setA, Int.toNat_of_nonneg q2.1] at k2
        rw [setA_1] at k3
        simp (disch := omega) only [m_starts I.nf, Option.bind_some, Option.bind_none, ↓reduceIte, true_and, and_true, not_true_eq_false, not_false_eq_true, k2, k3, m_of, setA_1, iI_eq, iI_eq0]
        grind
      · simp only [q, q2, q3, not_true_eq_false, not_false_eq_true, or_true, false_or, Option.bind_some, Option.bind_none, ↓reduceIte, true_and, and_true, not_true_eq_false, not_false_eq_true]
    · simp only [q, q2, not_true_eq_false, not_false_eq_true, true_or, false_or, Option.bind_some, Option.bind_none, ↓reduceIte, true_and, and_true, not_true_eq_false, not_false_eq_true]
  · simp only [q, not_false_eq_true, true_or, Option.bind_some, Option.bind_none, ↓reduceIte, true_and, and_true, not_true_eq_false, not_false_eq_true]
end MODEL
