/-! ===== the model's calls: asking ===== -/
def in3 (v l u : Int) : Prop := l ≤ v ∧ v ≤ u
theorem lc2 : (2 : Int64) = lI 2 := rfl
theorem lc3 : (3 : Int64) = lI 3 := rfl
theorem lc4 : (4 : Int64) = lI 4 := rfl
theorem lc5 : (5 : Int64) = lI 5 := rfl
theorem lc6 : (6 : Int64) = lI 6 := rfl
theorem lc8 : (8 : Int64) = lI 8 := rfl
theorem lc9 : (9 : Int64) = lI 9 := rfl
theorem lc10 : (10 : Int64) = lI 10 := rfl
theorem lc20 : (20 : Int64) = lI 20 := rfl
theorem lc30 : (30 : Int64) = lI 30 := rfl
theorem lc48 : (48 : Int64) = lI 48 := rfl
theorem lc57 : (57 : Int64) = lI 57 := rfl
theorem lc97 : (97 : Int64) = lI 97 := rfl
theorem lc99 : (99 : Int64) = lI 99 := rfl
theorem lc122 : (122 : Int64) = lI 122 := rfl
theorem lc127 : (127 : Int64) = lI 127 := rfl
section MODEL
variable {h : Hp} {m : Nat} {R : MR} {S : MSc} {nP nE : Int} {E : Nat}
theorem m_weeksGo (hR : v32R R) (hF : FA nP E (R 1)) (hE : S 4 = E) {n : Nat} (hn : n ≤ 30) (h54 : 0 ≤ R 1 54) (h54' : R 1 54 < 1000) : fX4_weeksGo (mput h m R S) m (iI n) = some (mput h m (setA R (s_weeks E n (R 1))) S) := by
  obtain ⟨y, hy, e⟩ := lpI (L := fun f x i => fX4_weeksGo_L2 m (iI n) f (mput h m x S) i) (I := fun k x => x = setA R (s_weeks E k (R 1))) (E := n) (out := fun x => mput h m x S) (fun f x _ => by
      show fX4_weeksGo_L2 m (iI n) (f + 1) (mput h m x S) (iI n) = _
      rw [fX4_weeksGo_L2, if_pos (by rw [iI_le] <;> omega)]) (fun f k x hk hx => by
      subst hx
      obtain ⟨g, g4⟩ := hF.weeks h54 k (by omega)
      refine ⟨_, rfl, ?_⟩
      show fX4_weeksGo_L2 m (iI n) (f + 1) (mput h m (setA R (s_weeks E k (R 1))) S) (iI k) = fX4_weeksGo_L2 m (iI n) f (mput h m (setA R (s_weeks E (k + 1) (R 1))) S) (iI ((k + 1 : Nat) : Int))
      rw [fX4_weeksGo_L2, if_neg (by rw [iI_le] <;> omega)]
      have w := m_weekGoes (h := h) (m := m) (R := setA R (s_weeks E k (R 1))) (S := S) (nP := nP) (E := E) (v32_setA hR g.2.2) (by rw [setA_1]; exact g.1) hE (by rw [setA_1, g4]; omega) (by rw [setA_1, g4]; omega)
      rw [w, Option.bind_some, setA_setA, setA_1, iI_s]
      unfold s_weeks
      rw [itr_succ]) n 0 FUEL R (by omega) (by unfold FUEL; omega) (by
      show R = setA R (R 1)
      rw [setA_self])
  unfold fX4_weeksGo
  rw [if_pos (m_cls _ _ _ _)]
  rw [iI_z] at e
  rw [e, Option.bind_some]
  subst hy
  rfl
theorem m_isPen (hS : -2147483647 ≤ S 3 ∧ S 3 < 2147483648) {p : Int} (p0 : -2147483648 ≤ p) (p1 : p < 2147483648) : fX4_isPen (mput h m R S) m (iI p) = some (iI (if 0 ≤ p ∧ p ≤ S 3 - 1 then 1 else 0)) := by
  unfold fX4_isPen
  simp (disch := omega) only [m_cls, Option.bind_some, Option.bind_none, ↓reduceIte, true_and, and_true, not_true_eq_false, not_false_eq_true, mi_pens, iI_sub, iI_long, m_in, ckZ_b]
theorem m_isEcho (hS : -2147483647 ≤ S 4 ∧ S 4 < 2147483648) {p : Int} (p0 : -2147483648 ≤ p) (p1 : p < 2147483648) : fX4_isEcho (mput h m R S) m (iI p) = some (iI (if 0 ≤ p ∧ p ≤ S 4 - 1 then 1 else 0)) := by
  unfold fX4_isEcho
  simp (disch := omega) only [m_cls, Option.bind_some, Option.bind_none, ↓reduceIte, true_and, and_true, not_true_eq_false, not_false_eq_true, mi_echoes, iI_sub, iI_long, m_in, ckZ_b]
theorem m_isOrder (hS : -2147483647 ≤ S 5 ∧ S 5 < 2147483648) {p : Int} (p0 : -2147483648 ≤ p) (p1 : p < 2147483648) : fX4_isOrder (mput h m R S) m (iI p) = some (iI (if 0 ≤ p ∧ p ≤ S 5 - 1 then 1 else 0)) := by
  unfold fX4_isOrder
  simp (disch := omega) only [m_cls, Option.bind_some, Option.bind_none, ↓reduceIte, true_and, and_true, not_true_eq_false, not_false_eq_true, mi_orders, iI_sub, iI_long, m_in, ckZ_b]
theorem m_isPart {p : Int} (p0 : -2147483648 ≤ p) (p1 : p < 2147483648) : fX4_isPart (iI p) = some (iI (if 0 ≤ p ∧ p ≤ 1 then 1 else 0)) := by
  unfold fX4_isPart
  simp (disch := omega) only [Option.bind_some, Option.bind_none, ↓reduceIte, true_and, and_true, not_true_eq_false, not_false_eq_true, iI_long, m_in, ckZ_b]
theorem m_becomes {i v : Int} (h1 : 0 ≤ i) (h2 : i < 225) : fX4_becomes (mput h m R S) m (iI i) (iI v) = some (iI (R 0 i), mput h m (up2 R 0 i v) S) := by
  unfold fX4_becomes
  simp (disch := omega) only [m_cls, Option.bind_some, Option.bind_none, ↓reduceIte, true_and, and_true, not_true_eq_false, not_false_eq_true, mr_st, ma_st, ms_st]
theorem m_fault : fX4_fault (mput h m R S) m = some (iI (S 19)) := by
  unfold fX4_fault
  simp (disch := omega) only [m_cls, Option.bind_some, Option.bind_none, ↓reduceIte, true_and, and_true, not_true_eq_false, not_false_eq_true, mi_fault]
theorem m_feed (hS : 0 ≤ S 14 ∧ S 14 ≤ 160) {c : Int} (p0 : -2147483648 ≤ c) (p1 : c < 2147483648) : fX4_feed (mput h m R S) m (iI c) = some (if ¬ (0 ≤ c ∧ c ≤ 127) then (iI (-1), mput h m R S) else if S 14 = 160 then (iI (-3), mput h m R S) else (iI (S 14 + 1), mput h m (up2 R 6 (S 14) c) (upS S 14 (S 14 + 1)))) := by
  unfold fX4_feed
  simp (disch := omega) only [m_cls, Option.bind_some, Option.bind_none, ↓reduceIte, true_and, and_true, not_true_eq_false, not_false_eq_true, iI_long, lc2, lc3, lc4, lc5, lc6, lc8, lc9, lc10, lc20, lc30, lc48, lc57, lc97, lc99, lc122, lc127, m_in, iI_b0, mi_taped, iI_eq]
  by_cases q : 0 ≤ c ∧ c ≤ 127
  · simp only [q, Option.bind_some, Option.bind_none, ↓reduceIte, true_and, and_true, not_true_eq_false, not_false_eq_true]
    by_cases q2 : S 14 = 160
    · simp only [q2, Option.bind_some, Option.bind_none, ↓reduceIte, true_and, and_true, not_true_eq_false, not_false_eq_true]
    · simp only [q2, Option.bind_some, Option.bind_none, ↓reduceIte, true_and, and_true, not_true_eq_false, not_false_eq_true]
      simp (disch := omega) only [mr_tape, Option.bind_some, Option.bind_none, ↓reduceIte, true_and, and_true, not_true_eq_false, not_false_eq_true, ms_tape, mi_taped, iI_add, mp_taped]
      rfl
  · simp only [q, Option.bind_some, Option.bind_none, ↓reduceIte, true_and, and_true, not_true_eq_false, not_false_eq_true]
theorem m_end (hS : 0 ≤ S 14 ∧ S 14 ≤ 160) {c : Int} (p0 : -2147483648 ≤ c) (p1 : c < 2147483648) : fX4_end (mput h m R S) m (iI c) = some (if ¬ (0 ≤ c ∧ c ≤ S 14) then (iI (-1), mput h m R S) else (iI (S 14), mput h m R (upS S 14 c))) := by
  unfold fX4_end
  simp (disch := omega) only [m_cls, Option.bind_some, Option.bind_none, ↓reduceIte, true_and, and_true, not_true_eq_false, not_false_eq_true, iI_long, m_in, iI_b0, mi_taped, mp_taped]
  by_cases q : 0 ≤ c ∧ c ≤ S 14
  · simp only [q, Option.bind_some, Option.bind_none, ↓reduceIte, true_and, and_true, not_true_eq_false, not_false_eq_true]
  · simp only [q, Option.bind_some, Option.bind_none, ↓reduceIte, true_and, and_true, not_true_eq_false, not_false_eq_true]
end MODEL
