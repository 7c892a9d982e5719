/-! ===== the model's calls: drift, near ===== -/
theorem s_drift_FA {nP : Int} {E : Nat} (hE : 0 < E) : ∀ (n : Nat) (v : Int32) (a : Int → Int), FA nP E a → a 54 + n < 1800 → FA nP E (s_drift E n v a) := by
  intro n
  induction n with
  | zero => intro v a hF _; exact hF
  | succ n ih =>
    intro v a hF h4
    obtain ⟨gd, gd54⟩ := hF.dr1 hE (s_seed v) (by omega)
    exact ih (s_seed v) (s_dr1 E (s_seed v) a) gd (by omega)
/-- what one order and one echo do to (fewest, found) -/
def s_nr (T a : Int → Int) (o e : Int) (x : Int × Int) : Int × Int := if s_bit (a 53) o = 0 ∧ ¬ s_sold a e ∧ s_so T a e o = true then (let w := if T (8 * o + 6) - s_ret a e ≤ 0 then 0 else T (8 * o + 6) - s_ret a e; if x.1 ≤ w then x else (w, 10 * o + e)) else x
def s_nrE (T a : Int → Int) (o : Int) : Nat → Int × Int → Int × Int
  | 0, x => x
  | k + 1, x => s_nr T a o k (s_nrE T a o k x)
def s_nrO (T a : Int → Int) (E : Nat) : Nat → Int × Int → Int × Int
  | 0, x => x
  | k + 1, x => s_nrE T a k E (s_nrO T a E k x)
section MODEL
variable {h : Hp} {m : Nat} {R : MR} {S : MSc} {nP nE : Int} {E : Nat}
theorem m_drift (I : MI R S E) (v : Int32) {n w : Int} (p0 : -2147483648 ≤ n) (p1 : n < 2147483648) (w0 : -2147483648 ≤ w) (w1 : w < 2147483648) : fX4_drift (mput h m R S) m v (iI n) (iI w) = some (if ¬ (1 ≤ n ∧ n ≤ 30) ∨ ¬ (0 ≤ w ∧ w ≤ 1) then (iI (-1), mput h m R S) else if E = 0 then (iI (-2), mput h m R S) else (iI (s_all (s_drift E n.toNat v (cur R)) (if w = 0 then 1 else 3) E), mput h m (setA R (s_drift E n.toNat v (cur R))) S)) := by
  have e5 := I.e5
  have wk0 := I.wk0
  have wk1 := I.wk1
  unfold fX4_drift
  simp (disch := omega) only [m_cls, Option.bind_some, Option.bind_none, ↓reduceIte, true_and, and_true, not_true_eq_false, not_false_eq_true, m_isPart, iI_long, lc2, lc3, lc4, lc5, lc6, lc8, lc9, lc10, lc20, lc30, lc48, lc57, lc97, lc99, lc122, lc127, m_in, iI_b0, mi_echoes, I.eE]
  by_cases q : 1 ≤ n ∧ n ≤ 30
  · by_cases q2 : 0 ≤ w ∧ w ≤ 1
    · simp only [q, q2, not_true_eq_false, or_self, Option.bind_some, Option.bind_none, ↓reduceIte, true_and, and_true, not_true_eq_false, not_false_eq_true]
      simp (disch := omega) only [iI_eq0, ite_iI]
      by_cases c : (E : Int) = 0
      · rw [if_pos c, if_pos (show E = 0 by omega)]
      · rw [if_neg c, if_neg (show ¬ E = 0 by omega)]
        have k := m_drift_L (h := h) (m := m) (nP := S 3) I.v32 I.eE (by omega) (n := n.toNat) (by omega) (iI w) n.toNat 0 FUEL v (cur R) (by omega) (by unfold FUEL; omega) I.fa wk0 (by omega)
        rw [iI_z, Int.toNat_of_nonneg (by omega)] at k
        have g := s_drift_FA (nP := S 3) (E := E) (by omega) n.toNat v (cur R) I.fa (by omega)
        have ka := m_allOf (h := h) (m := m) (S := S) (R := setA R (s_drift E n.toNat v (cur R))) (nP := S 3) (E := E) (v32_setA I.v32 g.2.2) (by rw [setA_1]; exact g.1) I.eE (w := if w = 0 then 1 else 3) (by split; exact Or.inl rfl; exact Or.inr rfl)
        rw [setA_1] at ka
        simp only [m_starts I.nf, Option.bind_some, Option.bind_none, ↓reduceIte, true_and, and_true, not_true_eq_false, not_false_eq_true, k, ka]
    · simp only [q, q2, not_true_eq_false, not_false_eq_true, or_true, Option.bind_some, Option.bind_none, ↓reduceIte, true_and, and_true, not_true_eq_false, not_false_eq_true]
  · simp only [q, not_false_eq_true, true_or, Option.bind_some, Option.bind_none, ↓reduceIte, true_and, and_true, not_true_eq_false, not_false_eq_true]
theorem m_near_E (I : MI R S E) (x1 : Int32) (ht : ∀ o, 0 ≤ o → o < S 5 → 0 ≤ R 3 (8 * o + 6) ∧ R 3 (8 * o + 6) ≤ 9) {o : Int} (o0 : 0 ≤ o) (o1 : o < S 5) {x : Int × Int} (hx : 0 ≤ x.1 ∧ x.1 ≤ 1000000000) (hx2 : -4 ≤ x.2 ∧ x.2 ≤ 100) : fX4_near_L35 (mput h m (setA R (cur R)) S) m x1 (iI o) FUEL (iI x.1) (iI x.2) (iI 0) = some (iI (s_nrE (R 3) (cur R) o E x).1, iI (s_nrE (R 3) (cur R) o E x).2) ∧ (0 ≤ (s_nrE (R 3) (cur R) o E x).1 ∧ (s_nrE (R 3) (cur R) o E x).1 ≤ 1000000000) ∧ -4 ≤ (s_nrE (R 3) (cur R) o E x).2 ∧ (s_nrE (R 3) (cur R) o E x).2 ≤ 100 := by
  have e5 := I.e5
  have o4 := I.o4
  have t := I.tm o o0 o1
  have t6 := ht o o0 o1
  have d0 := I.d0
  have d1 := I.d1
  obtain ⟨y, hy, e⟩ := lpI (L := fun n (z : Int × Int) i => fX4_near_L35 (mput h m (setA R (cur R)) S) m x1 (iI o) n (iI z.1) (iI z.2) i) (I := fun k z => z = s_nrE (R 3) (cur R) o k x ∧ (0 ≤ z.1 ∧ z.1 ≤ 1000000000) ∧ -4 ≤ z.2 ∧ z.2 ≤ 100) (E := E) (out := fun z => (iI z.1, iI z.2)) (fun n z _ => by
      show fX4_near_L35 (mput h m (setA R (cur R)) S) m x1 (iI o) (n + 1) (iI z.1) (iI z.2) (iI E) = _
      rw [fX4_near_L35]
      simp (disch := omega) only [mi_echoes, I.eE, Option.bind_some, Option.bind_none, ↓reduceIte, true_and, and_true, not_true_eq_false, not_false_eq_true, iI_le]
      rw [if_pos (Int.le_refl _)]) (fun n k z hk hz => by
      have g := I.fa.1.ech (e := k) (by omega) (by omega)
      have r := s_ret_le I.fa.1 (e := k) (by omega) (by omega)
      have ko := m_isOpen (h := h) (m := m) (S := S) (R := setA R (cur R)) (by rw [setA_1]; exact d0) (by rw [setA_1]; exact d1) (o := o) o0 (by omega)
      have ks := m_isSold (h := h) (m := m) (S := S) I.ats (e := k) (by omega) (by omega)
      have ke := m_endsSo (h := h) (m := m) (S := S) I.ats (e := k) (o := o) (by omega) (by omega) o0 (by omega) (by rw [set3]; exact t.1) (by rw [set3]; exact t.2) (by rw [setA_1]; omega) (by rw [setA_1]; omega)
      have kr := m_returnsOf (h := h) (m := m) (S := S) I.ats I.fi (e := k) (by omega) (by omega)
      rw [setA_1] at ko ks kr
      rw [setA_1, set3] at ke
      have hn : s_nrE (R 3) (cur R) o (k + 1) x = s_nr (R 3) (cur R) o k (s_nrE (R 3) (cur R) o k x) := rfl
      refine ⟨s_nr (R 3) (cur R) o k z, ⟨by rw [hz.1, hn], ?_, ?_, ?_⟩, ?_⟩
      · unfold s_nr; grind
      · unfold s_nr; grind
      · unfold s_nr; grind
      · show fX4_near_L35 (mput h m (setA R (cur R)) S) m x1 (iI o) (n + 1) (iI z.1) (iI z.2) (iI k) = fX4_near_L35 (mput h m (setA R (cur R)) S) m x1 (iI o) n (iI _) (iI _) (iI ((k + 1 : Nat) : Int))
        rw [fX4_near_L35]
        simp (disch := omega) only [mi_echoes, I.eE, Option.bind_some, Option.bind_none, ↓reduceIte, true_and, and_true, not_true_eq_false, not_false_eq_true, iI_le, ko, ks, ke, kr, mr_terms, ma_terms, iI_mul, iI_add, set3, iI_b0, iI_sub, nmI]
        rw [if_neg (by omega), show (k : Int) + 1 = ((k + 1 : Nat) : Int) from rfl]
        have key : ∀ y : Option (Int32 × Int32), y = some (iI (s_nr (R 3) (cur R) o k z).1, iI (s_nr (R 3) (cur R) o k z).2) → (y.bind fun o11 => fX4_near_L35 (mput h m (setA R (cur R)) S) m x1 (iI o) n o11.1 o11.2 (iI ((k + 1 : Nat) : Int))) = fX4_near_L35 (mput h m (setA R (cur R)) S) m x1 (iI o) n (iI (s_nr (R 3) (cur R) o k z).1) (iI (s_nr (R 3) (cur R) o k z).2) (iI ((k + 1 : Nat) : Int)) := fun y hy => by rw [hy]; rfl
        refine key _ ?_
        simp (disch := omega) only [iI_le0, ite_iI]
        have w0 : 0 ≤ (if R 3 (8 * o + 6) - s_ret (cur R) k ≤ 0 then 0 else R 3 (8 * o + 6) - s_ret (cur R) k) ∧ (if R 3 (8 * o + 6) - s_ret (cur R) k ≤ 0 then 0 else R 3 (8 * o + 6) - s_ret (cur R) k) ≤ 9 := by split <;> omega
        simp (disch := omega) only [iI_le, ite_iI]
        unfold s_nr
        grind) E 0 FUEL x (by omega) (by unfold FUEL; omega) ⟨rfl, hx, hx2⟩
  rw [iI_z] at e
  rw [hy.1] at e hy
  exact ⟨e, hy.2⟩
end MODEL
