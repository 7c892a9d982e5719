/-! ===== the model's calls: when, meets, sell ===== -/
/-- the first week from n on, d at most, in which e meets o -/
def s_whn (T a : Int → Int) (E : Nat) (e o : Int) : Nat → Nat → Nat
  | 0, n => n
  | d + 1, n => if s_meet T (s_weeks E n a) e o = true then n else s_whn T a E e o d (n + 1)
theorem s_whn_le {T a : Int → Int} {E : Nat} {e o : Int} : ∀ d n : Nat, n ≤ s_whn T a E e o d n ∧ s_whn T a E e o d n ≤ n + d := by
  intro d
  induction d with
  | zero => intro n; exact ⟨Nat.le_refl _, Nat.le_refl _⟩
  | succ d ih =>
    intro n
    rw [s_whn]
    split
    · omega
    · have := ih (n + 1); omega
theorem s_weeks_53 {E : Nat} (hE : E ≤ 5) (a : Int → Int) : ∀ n : Nat, s_weeks E n a 53 = a 53 := by
  intro n
  induction n with
  | zero => rfl
  | succ n ih =>
    unfold s_weeks at ih ⊢
    rw [itr_succ, s_week_out E _ (by omega) (by omega), ih]
section MODEL
variable {h : Hp} {m : Nat} {R : MR} {S : MSc} {nP nE : Int} {E : Nat}
theorem set3 (R : MR) (b : Int → Int) : (setA R b) 3 = R 3 := setA_n R b (by decide)
theorem m_when_L (I : MI R S E) {e o : Int} (e0 : 0 ≤ e) (e1 : e < E) (o0 : 0 ≤ o) (o1 : o < S 5) : ∀ (d n f : Nat), n + d = 31 → d < f → fX4_when_L24 m (iI e) (iI o) f (mput h m (setA R (s_weeks E n (cur R))) S) (iI n) = some (if s_whn (R 3) (cur R) E e o d n = 31 then .inr (mput h m (setA R (s_weeks E 31 (cur R))) S) else .inl (iI (s_whn (R 3) (cur R) E e o d n : Nat), mput h m (setA R (s_weeks E (s_whn (R 3) (cur R) E e o d n) (cur R))) S)) := by
  have e5 := I.e5
  have wk0 := I.wk0
  have wk1 := I.wk1
  have o4 := I.o4
  have t := I.tm o o0 o1
  intro d
  induction d with
  | zero =>
    intro n f h1 h2
    cases f with
    | zero => omega
    | succ f =>
      obtain rfl : n = 31 := by omega
      rw [fX4_when_L24, if_pos (by decide)]
      rfl
  | succ d ih =>
    intro n f h1 h2
    cases f with
    | zero => omega
    | succ f =>
      have w := I.fa.weeks wk0 n (by omega)
      have k1 := m_doesMeet (h := h) (m := m) (R := setA R (s_weeks E n (cur R))) (S := S) (nP := S 3) (nE := E) (v32_setA I.v32 w.1.2.2) (by rw [setA_1]; exact w.1.1) (by rw [setA_1, s_weeks_53 e5]; exact I.d0) (by rw [setA_1, s_weeks_53 e5]; exact I.d1) (e := e) (o := o) e0 e1 o0 (by omega) (by rw [set3]; exact t.1) (by rw [set3]; exact t.2)
      have k2 := m_weekGoes (h := h) (m := m) (R := setA R (s_weeks E n (cur R))) (S := S) (nP := S 3) (E := E) (v32_setA I.v32 w.1.2.2) (by rw [setA_1]; exact w.1.1) I.eE (by rw [setA_1, w.2]; omega) (by rw [setA_1, w.2]; omega)
      rw [setA_1, set3] at k1
      rw [setA_1, setA_setA] at k2
      rw [fX4_when_L24, if_neg (by rw [iI_lt] <;> omega), k1, Option.bind_some, s_whn]
      simp only [iI_b0]
      by_cases c : s_meet (R 3) (s_weeks E n (cur R)) e o = true
      · rw [if_neg (fun z => z c), if_pos c, if_neg (by omega)]
      · rw [if_pos c, if_neg c, k2, Option.bind_some, iI_s]
        have k3 := ih (n + 1) f (by omega) (by omega)
        rw [show s_weeks E (n + 1) (cur R) = s_week E (s_weeks E n (cur R)) by unfold s_weeks; rw [itr_succ]] at k3
        exact k3
theorem m_when (I : MI R S E) {e o : Int} (p0 : -2147483648 ≤ e) (p1 : e < 2147483648) (w0 : -2147483648 ≤ o) (w1 : o < 2147483648) : fX4_when (mput h m R S) m (iI e) (iI o) = some (if ¬ (0 ≤ e ∧ e ≤ (E : Int) - 1) ∨ ¬ (0 ≤ o ∧ o ≤ S 5 - 1) then (iI (-1), mput h m R S) else (iI (if s_whn (R 3) (cur R) E e o 31 0 = 31 then -4 else (s_whn (R 3) (cur R) E e o 31 0 : Nat)), mput h m (setA R (s_weeks E (s_whn (R 3) (cur R) E e o 31 0) (cur R))) S)) := by
  have e5 := I.e5
  have s4 := I.s4
  have s5 := I.s5
  unfold fX4_when
  simp (disch := omega) only [m_cls, Option.bind_some, Option.bind_none, ↓reduceIte, true_and, and_true, not_true_eq_false, not_false_eq_true, m_isEcho, m_isOrder, iI_b0, I.eE]
  by_cases q : 0 ≤ e ∧ e ≤ (E : Int) - 1
  · by_cases q2 : 0 ≤ o ∧ o ≤ S 5 - 1
    · simp only [q, q2, not_true_eq_false, or_self, Option.bind_some, Option.bind_none, ↓reduceIte, true_and, and_true, not_true_eq_false, not_false_eq_true]
      have k := m_when_L (h := h) (m := m) I (e := e) (o := o) q.1 (by omega) q2.1 (by omega) 31 0 FUEL (by omega) (by unfold FUEL; omega)
      rw [iI_z, show s_weeks E 0 (cur R) = cur R from rfl] at k
      simp only [m_starts I.nf, Option.bind_some, Option.bind_none, ↓reduceIte, true_and, and_true, not_true_eq_false, not_false_eq_true, k]
      by_cases c : s_whn (R 3) (cur R) E e o 31 0 = 31
      · rw [if_pos c, if_pos c, c]; rfl
      · rw [if_neg c, if_neg c]; rfl
    · simp only [q, q2, not_true_eq_false, not_false_eq_true, or_true, Option.bind_some, Option.bind_none, ↓reduceIte, true_and, and_true, not_true_eq_false, not_false_eq_true]
  · simp only [q, not_false_eq_true, true_or, Option.bind_some, Option.bind_none, ↓reduceIte, true_and, and_true, not_true_eq_false, not_false_eq_true]
theorem m_meets (I : MI R S E) {e : Int} (p0 : -2147483648 ≤ e) (p1 : e < 2147483648) : fX4_meets (mput h m R S) m (iI e) = some (if ¬ (0 ≤ e ∧ e ≤ (E : Int) - 1) then (iI (-1), mput h m R S) else (iI (bm (fun o => s_meet (R 3) (cur R) e o) (S 5).toNat), mput h m (setA R (cur R)) S)) := by
  have e5 := I.e5
  have s4 := I.s4
  have o0 := I.o0
  have o4 := I.o4
  unfold fX4_meets
  simp (disch := omega) only [m_cls, Option.bind_some, Option.bind_none, ↓reduceIte, true_and, and_true, not_true_eq_false, not_false_eq_true, m_isEcho, iI_b0, I.eE]
  by_cases q : 0 ≤ e ∧ e ≤ (E : Int) - 1
  · simp only [q, Option.bind_some, Option.bind_none, ↓reduceIte, true_and, and_true, not_true_eq_false, not_false_eq_true]
    obtain ⟨y, hy, k⟩ := lpI (L := fun n x i => fX4_meets_L18 (mput h m (setA R (cur R)) S) m (iI e) n (iI x) i) (I := fun k x => x = bm (fun o => s_meet (R 3) (cur R) e o) k) (E := (S 5).toNat) (out := fun x => iI x) (fun n x _ => by
        show fX4_meets_L18 (mput h m (setA R (cur R)) S) m (iI e) (n + 1) (iI x) (iI ((S 5).toNat : Int)) = _
        rw [fX4_meets_L18]
        simp (disch := omega) only [mi_orders, Option.bind_some, Option.bind_none, ↓reduceIte, true_and, and_true, not_true_eq_false, not_false_eq_true, iI_le]
        rw [if_pos (by omega)]) (fun n k x hk hx => by
        have t := I.tm k (by omega) (by omega)
        have k1 := m_doesMeet (h := h) (m := m) (R := setA R (cur R)) (S := S) (nP := S 3) (nE := E) I.ats I.fi (by rw [setA_1]; exact I.d0) (by rw [setA_1]; exact I.d1) (e := e) (o := k) q.1 (by omega) (by omega) (by omega) (by rw [set3]; exact t.1) (by rw [set3]; exact t.2)
        rw [setA_1, set3] at k1
        subst hx
        refine ⟨_, rfl, ?_⟩
        show fX4_meets_L18 (mput h m (setA R (cur R)) S) m (iI e) (n + 1) (iI _) (iI k) = fX4_meets_L18 (mput h m (setA R (cur R)) S) m (iI e) n (iI _) (iI ((k + 1 : Nat) : Int))
        rw [fX4_meets_L18]
        simp (disch := omega) only [mi_orders, Option.bind_some, Option.bind_none, ↓reduceIte, true_and, and_true, not_true_eq_false, not_false_eq_true, iI_le, k1, m_flag]
        rw [if_neg (by omega), bm_or (fun o => s_meet (R 3) (cur R) e o) (by omega) (by simp), iI_s]) (S 5).toNat 0 FUEL 0 (by omega) (by unfold FUEL; omega) rfl
    rw [iI_z] at k
    subst hy
    simp only [m_starts I.nf, Option.bind_some, Option.bind_none, ↓reduceIte, true_and, and_true, not_true_eq_false, not_false_eq_true, k]
  · simp only [q, Option.bind_some, Option.bind_none, ↓reduceIte, true_and, and_true, not_true_eq_false, not_false_eq_true]
theorem m_sell (I : MI R S E) (m0 : 0 ≤ cur R 55) (m1 : cur R 55 ≤ 1000) (hp : ∀ o, 0 ≤ o → o < S 5 → 0 ≤ R 3 (8 * o + 7) ∧ R 3 (8 * o + 7) ≤ 9) {e o : Int} (p0 : -2147483648 ≤ e) (p1 : e < 2147483648) (w0 : -2147483648 ≤ o) (w1 : o < 2147483648) : fX4_sell (mput h m R S) m (iI e) (iI o) = some (if ¬ (0 ≤ e ∧ e ≤ (E : Int) - 1) ∨ ¬ (0 ≤ o ∧ o ≤ S 5 - 1) then (iI (-1), mput h m R S) else if s_meet (R 3) (cur R) e o = true then (iI (cur R 55 + R 3 (8 * o + 7)), mput h m (up2 (up2 (up2 (setA R (cur R)) 0 (8 + 9 * e + 2) (-4)) 0 53 (cur R 53 + 2 ^ o.toNat)) 0 55 (cur R 55 + R 3 (8 * o + 7))) S) else (iI (-2), mput h m (setA R (cur R)) S)) := by
  have e5 := I.e5
  have s4 := I.s4
  have s5 := I.s5
  have o4 := I.o4
  have d0 := I.d0
  have d1 := I.d1
  unfold fX4_sell
  simp (disch := omega) only [m_cls, Option.bind_some, Option.bind_none, ↓reduceIte, true_and, and_true, not_true_eq_false, not_false_eq_true, m_isEcho, m_isOrder, iI_b0, I.eE]
  by_cases q : 0 ≤ e ∧ e ≤ (E : Int) - 1
  · by_cases q2 : 0 ≤ o ∧ o ≤ S 5 - 1
    · simp only [q, q2, not_true_eq_false, or_self, Option.bind_some, Option.bind_none, ↓reduceIte, true_and, and_true, not_true_eq_false, not_false_eq_true]
      have t := I.tm o q2.1 (by omega)
      have hp' := hp o q2.1 (by omega)
      have k1 := m_doesMeet (h := h) (m := m) (R := setA R (cur R)) (S := S) (nP := S 3) (nE := E) I.ats I.fi (by rw [setA_1]; exact d0) (by rw [setA_1]; exact d1) (e := e) (o := o) q.1 (by omega) q2.1 (by omega) (by rw [set3]; exact t.1) (by rw [set3]; exact t.2)
      rw [setA_1, set3] at k1
      simp only [m_starts I.nf, Option.bind_some, Option.bind_none, ↓reduceIte, true_and, and_true, not_true_eq_false, not_false_eq_true, k1, iI_b0]
      by_cases c : s_meet (R 3) (cur R) e o = true
      · have hb : s_bit (cur R 53) o = 0 := by
          unfold s_meet at c
          simp only [Bool.and_eq_true, decide_eq_true_eq] at c
          exact c.1.1.1
        have u1 : ∀ v, (up2 (setA R (cur R)) 0 (8 + 9 * e + 2) v) 0 53 = cur R 53 := fun v => by rw [up2_ne (by omega), set0, cur_in R (by omega) (by omega)]
        have u2 : ∀ v w, (up2 (up2 (setA R (cur R)) 0 (8 + 9 * e + 2) v) 0 53 w) 0 55 = cur R 55 := fun v w => by rw [up2_ne (by omega), up2_ne (by omega), set0, cur_in R (by omega) (by omega)]
        have u3 : ∀ v w, (up2 (up2 (setA R (cur R)) 0 (8 + 9 * e + 2) v) 0 53 w) 3 (8 * o + 7) = R 3 (8 * o + 7) := fun v w => by rw [up2_ne (by omega), up2_ne (by omega), set3]
        have u4 : ∀ v w x, (up2 (up2 (up2 (setA R (cur R)) 0 (8 + 9 * e + 2) v) 0 53 w) 0 55 x) 0 55 = x := fun v w x => up2_eq
        simp only [c, not_true_eq_false, if_true, if_false]
        simp (disch := omega) only [mr_st, mr_terms, iI_mul, iI_add, ms_st, ma_st, ma_terms, Option.bind_some, Option.bind_none, ↓reduceIte, true_and, and_true, not_true_eq_false, not_false_eq_true, u1, iI_or16 d0 d1 q2.1 (show o < 4 by omega) hb, u2, u3, u4]
      · simp only [c, Option.bind_some, Option.bind_none, ↓reduceIte, true_and, and_true, not_true_eq_false, not_false_eq_true]
        rfl
    · simp only [q, q2, not_true_eq_false, not_false_eq_true, or_true, Option.bind_some, Option.bind_none, ↓reduceIte, true_and, and_true, not_true_eq_false, not_false_eq_true]
  · simp only [q, not_false_eq_true, true_or, Option.bind_some, Option.bind_none, ↓reduceIte, true_and, and_true, not_true_eq_false, not_false_eq_true]
end MODEL
