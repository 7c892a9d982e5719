/-! ===== the model's calls: changes; weeks ===== -/
section MODEL
variable {h : Hp} {m : Nat} {R : MR} {S : MSc} {nP nE : Int} {E : Nat}
abbrev isE (E : Nat) (e : Int) : Prop := 0 ≤ e ∧ e ≤ (E : Int) - 1
abbrev isP (S : MSc) (p : Int) : Prop := 0 ≤ p ∧ p ≤ S 3 - 1
theorem m_drive (I : MI R S E) {e p : Int} (p0 : -2147483648 ≤ e) (p1 : e < 2147483648) (w0 : -2147483648 ≤ p) (w1 : p < 2147483648) : fX4_drive (mput h m R S) m (iI e) (iI p) = some (if ¬ isE E e ∨ ¬ isP S p then (iI (-1), mput h m R S) else if cur R (8 + 9 * e + 2) = p ∨ s_sold (cur R) e then (iI (-2), mput h m (setA R (cur R)) S) else if cnt (f_in (cur R) p) E = 3 then (iI (-3), mput h m (setA R (cur R)) S) else (iI (cur R (8 + 9 * e + 2)), mput h m (up2 (setA R (cur R)) 0 (8 + 9 * e + 2) p) S)) := by
  have e5 := I.e5
  have s4 := I.s4
  have s3 := I.s3
  have p4 := I.p4
  unfold fX4_drive isE isP
  simp (disch := omega) only [m_cls, Option.bind_some, Option.bind_none, ↓reduceIte, true_and, and_true, not_true_eq_false, not_false_eq_true, m_isEcho, m_isPen, iI_b0, I.eE]
  by_cases q : 0 ≤ e ∧ e ≤ (E : Int) - 1
  · by_cases q2 : 0 ≤ p ∧ p ≤ S 3 - 1
    · have g := I.fa.1.ech (e := e) q.1 (by omega)
      have k1 := m_inPen (h := h) (m := m) (p := p) I.ats I.eE e5 (by omega) (by omega)
      have k2 := m_isSold (h := h) (m := m) (S := S) I.ats (e := e) q.1 (by omega)
      rw [setA_1] at k1 k2
      have c5 := cnt_le (f_in (cur R) p) E
      simp only [q, q2, not_true_eq_false, or_self, Option.bind_some, Option.bind_none, ↓reduceIte, true_and, and_true, not_true_eq_false, not_false_eq_true]
      simp (disch := omega) only [m_starts I.nf, Option.bind_some, Option.bind_none, ↓reduceIte, true_and, and_true, not_true_eq_false, not_false_eq_true, m_of, setA_1, iI_eq, k1, k2, iI_b0, m_bitsOf _ e5, iI_mul, iI_add, m_becomes, set0]
      rw [← cur_in R (i := 8 + 9 * e + 2) (by omega) (by omega)]
      grind
    · simp only [q, q2, or_true, Option.bind_some, Option.bind_none, ↓reduceIte, true_and, and_true, not_true_eq_false, not_false_eq_true]
  · simp only [q, true_or, Option.bind_some, Option.bind_none, ↓reduceIte, true_and, and_true, not_true_eq_false, not_false_eq_true]
theorem m_fence (I : MI R S E) {p w v : Int} (p0 : -2147483648 ≤ p) (p1 : p < 2147483648) (w0 : -2147483648 ≤ w) (w1 : w < 2147483648) (v0 : -2147483648 ≤ v) (v1 : v < 2147483648) : fX4_fence (mput h m R S) m (iI p) (iI w) (iI v) = some (if ¬ isP S p ∨ ¬ (0 ≤ w ∧ w ≤ 1) ∨ ¬ ((if w = 0 then 1 else 0) ≤ v ∧ v ≤ (if w = 0 then 9 else 4)) then (iI (-1), mput h m R S) else (iI (cur R (2 * p + w)), mput h m (up2 R 0 (2 * p + w) v) S)) := by
  have s3 := I.s3
  have p4 := I.p4
  unfold fX4_fence isP
  simp (disch := omega) only [m_cls, Option.bind_some, Option.bind_none, ↓reduceIte, true_and, and_true, not_true_eq_false, not_false_eq_true, m_isPen, m_isPart, iI_b0]
  simp (disch := omega) only [iI_eq0, iI_long, lc2, lc3, lc4, lc5, lc6, lc8, lc9, lc10, lc20, lc30, lc48, lc57, lc97, lc99, lc122, lc127]
  by_cases q : 0 ≤ p ∧ p ≤ S 3 - 1
  · by_cases q2 : 0 ≤ w ∧ w ≤ 1
    · simp only [q, q2, not_true_eq_false, false_or, Option.bind_some, Option.bind_none, ↓reduceIte, true_and, and_true, not_true_eq_false, not_false_eq_true]
      rw [show (if w = 0 then lI 1 else lI 0) = lI (if w = 0 then 1 else 0) by split <;> rfl, show (if w = 0 then lI 9 else lI 4) = lI (if w = 0 then 9 else 4) by split <;> rfl]
      rw [m_in (by omega) (by omega) (by split <;> omega) (by split <;> omega) (by split <;> omega) (by split <;> omega)]
      simp only [Option.bind_some, Option.bind_none, ↓reduceIte, true_and, and_true, not_true_eq_false, not_false_eq_true, iI_b0]
      by_cases q3 : (if w = 0 then 1 else 0) ≤ v ∧ v ≤ (if w = 0 then 9 else 4)
      · simp only [q3, Option.bind_some, Option.bind_none, ↓reduceIte, true_and, and_true, not_true_eq_false, not_false_eq_true]
        simp (disch := omega) only [iI_mul, iI_add, m_becomes, Option.bind_some, Option.bind_none, ↓reduceIte, true_and, and_true, not_true_eq_false, not_false_eq_true]
        rw [cur_in R (by omega) (by omega)]
      · simp only [q3, Option.bind_some, Option.bind_none, ↓reduceIte, true_and, and_true, not_true_eq_false, not_false_eq_true]
    · simp only [q, q2, not_false_eq_true, not_true_eq_false, false_or, true_or, Option.bind_some, Option.bind_none, ↓reduceIte, true_and, and_true, not_true_eq_false, not_false_eq_true]
  · simp only [q, not_false_eq_true, true_or, Option.bind_some, Option.bind_none, ↓reduceIte, true_and, and_true, not_true_eq_false, not_false_eq_true]
theorem m_raise (I : MI R S E) {p w v : Int} (p0 : -2147483648 ≤ p) (p1 : p < 2147483648) (w0 : -2147483648 ≤ w) (w1 : w < 2147483648) (v0 : -2147483648 ≤ v) (v1 : v < 2147483648) : fX4_raise (mput h m R S) m (iI p) (iI w) (iI v) = some (if ¬ isE E p ∨ ¬ (0 ≤ w ∧ w ≤ 1) ∨ ¬ (0 ≤ v ∧ v ≤ (if w = 0 then 99 else 3)) then (iI (-1), mput h m R S) else (iI (cur R (8 + 9 * p + (if w = 0 then 1 else 0))), mput h m (up2 R 0 (8 + 9 * p + (if w = 0 then 1 else 0)) v) S)) := by
  have e5 := I.e5
  have s4 := I.s4
  unfold fX4_raise isE
  simp (disch := omega) only [m_cls, Option.bind_some, Option.bind_none, ↓reduceIte, true_and, and_true, not_true_eq_false, not_false_eq_true, m_isEcho, m_isPart, iI_b0, I.eE]
  simp (disch := omega) only [iI_eq0, iI_long, lc2, lc3, lc4, lc5, lc6, lc8, lc9, lc10, lc20, lc30, lc48, lc57, lc97, lc99, lc122, lc127, ite_iI]
  by_cases q : 0 ≤ p ∧ p ≤ (E : Int) - 1
  · by_cases q2 : 0 ≤ w ∧ w ≤ 1
    · simp only [q, q2, not_true_eq_false, false_or, Option.bind_some, Option.bind_none, ↓reduceIte, true_and, and_true, not_true_eq_false, not_false_eq_true]
      rw [show (if w = 0 then lI 99 else lI 3) = lI (if w = 0 then 99 else 3) by split <;> rfl]
      rw [m_in (by omega) (by omega) (by omega) (by omega) (by split <;> omega) (by split <;> omega)]
      simp only [Option.bind_some, Option.bind_none, ↓reduceIte, true_and, and_true, not_true_eq_false, not_false_eq_true, iI_b0]
      have hz : 0 ≤ (if w = 0 then (1 : Int) else 0) ∧ (if w = 0 then (1 : Int) else 0) ≤ 1 := by split <;> omega
      by_cases q3 : 0 ≤ v ∧ v ≤ (if w = 0 then 99 else 3)
      · simp only [q3, Option.bind_some, Option.bind_none, ↓reduceIte, true_and, and_true, not_true_eq_false, not_false_eq_true]
        generalize (if w = 0 then (1 : Int) else 0) = z at hz ⊢
        simp (disch := omega) only [iI_mul, iI_add, m_becomes, Option.bind_some, Option.bind_none, ↓reduceIte, true_and, and_true, not_true_eq_false, not_false_eq_true]
        rw [cur_in R (by omega) (by omega)]
      · simp only [q3, Option.bind_some, Option.bind_none, ↓reduceIte, true_and, and_true, not_true_eq_false, not_false_eq_true]
    · simp only [q, q2, not_false_eq_true, not_true_eq_false, false_or, true_or, Option.bind_some, Option.bind_none, ↓reduceIte, true_and, and_true, not_true_eq_false, not_false_eq_true]
  · simp only [q, not_false_eq_true, true_or, Option.bind_some, Option.bind_none, ↓reduceIte, true_and, and_true, not_true_eq_false, not_false_eq_true]
/-- a farm with one number changed -/
def put1 (a : Int → Int) (i v : Int) : Int → Int := fun j => if j = i then v else a j
theorem m_clip (I : MI R S E) {e : Int} (p0 : -2147483648 ≤ e) (p1 : e < 2147483648) : fX4_clip (mput h m R S) m (iI e) = some (if ¬ isE E e then (iI (-1), mput h m R S) else if cur R (8 + 9 * e + 3) = 0 ∨ s_sold (cur R) e then (iI (-2), mput h m (setA R (cur R)) S) else (iI (cur R (8 + 9 * e + 3) - 1), mput h m (setC (setA R (put1 (cur R) (8 + 9 * e + 3) (cur R (8 + 9 * e + 3) - 1))) (put1 (cur R) (8 + 9 * e + 3) (cur R (8 + 9 * e + 3) - 1))) S)) := by
  have e5 := I.e5
  have s4 := I.s4
  unfold fX4_clip isE
  simp (disch := omega) only [m_cls, Option.bind_some, Option.bind_none, ↓reduceIte, true_and, and_true, not_true_eq_false, not_false_eq_true, m_isEcho, iI_b0, I.eE]
  by_cases q : 0 ≤ e ∧ e ≤ (E : Int) - 1
  · have g := I.fa.1.ech (e := e) q.1 (by omega)
    have k2 := m_isSold (h := h) (m := m) (S := S) I.ats (e := e) q.1 (by omega)
    have k3 := m_losesLetter (h := h) (m := m) (S := S) I.ats (e := e) q.1 (by omega)
    rw [setA_1] at k2 k3
    simp only [q, Option.bind_some, Option.bind_none, ↓reduceIte, true_and, and_true, not_true_eq_false, not_false_eq_true]
    simp (disch := omega) only [m_starts I.nf, Option.bind_some, Option.bind_none, ↓reduceIte, true_and, and_true, not_true_eq_false, not_false_eq_true, m_of, setA_1, k2, k3, iI_b0, up2_setA]
    simp (disch := omega) only [iI_eq0]
    by_cases c1 : cur R (8 + 9 * e + 3) = 0
    · rw [if_pos c1, if_pos (Or.inl c1)]
    · rw [if_neg c1]
      by_cases c2 : s_sold (cur R) e
      · rw [if_neg (fun z => z c2), if_pos (Or.inr c2)]
      · rw [if_pos c2, if_neg (show ¬ cur R (8 + 9 * e + 3) ≤ 0 by omega), if_neg (show ¬ (cur R (8 + 9 * e + 3) = 0 ∨ s_sold (cur R) e) from fun z => z.elim c1 c2), m_settles]
        simp (disch := omega) only [Option.bind_some, Option.bind_none, ↓reduceIte, true_and, and_true, not_true_eq_false, not_false_eq_true, m_of, setA_1]
        have w : (setC (setA R (fun j => if j = 8 + 9 * e + 3 then cur R (8 + 9 * e + 3) - 1 else cur R j)) (fun j => if j = 8 + 9 * e + 3 then cur R (8 + 9 * e + 3) - 1 else cur R j)) 1 (8 + 9 * e + 3) = cur R (8 + 9 * e + 3) - 1 := by
          unfold setC
          rw [if_neg (by omega), setA_1]
          exact if_pos rfl
        rw [w]
        rfl
  · simp only [q, Option.bind_some, Option.bind_none, ↓reduceIte, true_and, and_true, not_true_eq_false, not_false_eq_true]
theorem m_teach (I : MI R S E) {e c : Int} (p0 : -2147483648 ≤ e) (p1 : e < 2147483648) (w0 : -2147483648 ≤ c) (w1 : c < 2147483648) : fX4_teach (mput h m R S) m (iI e) (iI c) = some (if ¬ isE E e ∨ ¬ (97 ≤ c ∧ c ≤ 122) then (iI (-1), mput h m R S) else if s_sold (cur R) e then (iI (-2), mput h m (setA R (cur R)) S) else if cur R (8 + 9 * e + 3) = 5 then (iI (-3), mput h m (setA R (cur R)) S) else (iI (cur R (8 + 9 * e + 3) + 1), mput h m (up2 (up2 (setA R (cur R)) 0 (8 + 9 * e + 4 + cur R (8 + 9 * e + 3)) c) 0 (8 + 9 * e + 3) (cur R (8 + 9 * e + 3) + 1)) S)) := by
  have e5 := I.e5
  have s4 := I.s4
  unfold fX4_teach isE
  simp (disch := omega) only [m_cls, Option.bind_some, Option.bind_none, ↓reduceIte, true_and, and_true, not_true_eq_false, not_false_eq_true, m_isEcho, iI_b0, I.eE, iI_long, lc2, lc3, lc4, lc5, lc6, lc8, lc9, lc10, lc20, lc30, lc48, lc57, lc97, lc99, lc122, lc127, m_in]
  by_cases q : 0 ≤ e ∧ e ≤ (E : Int) - 1
  · by_cases q2 : 97 ≤ c ∧ c ≤ 122
    · have g := I.fa.1.ech (e := e) q.1 (by omega)
      have k2 := m_isSold (h := h) (m := m) (S := S) I.ats (e := e) q.1 (by omega)
      rw [setA_1] at k2
      simp only [q, q2, not_true_eq_false, or_self, Option.bind_some, Option.bind_none, ↓reduceIte, true_and, and_true, not_true_eq_false, not_false_eq_true]
      simp (disch := omega) only [m_starts I.nf, Option.bind_some, Option.bind_none, ↓reduceIte, true_and, and_true, not_true_eq_false, not_false_eq_true, m_of, setA_1, iI_eq, k2, iI_b0, mr_st, iI_mul, iI_add, ms_st]
      grind
    · simp only [q, q2, or_true, Option.bind_some, Option.bind_none, ↓reduceIte, true_and, and_true, not_true_eq_false, not_false_eq_true]
  · simp only [q, true_or, Option.bind_some, Option.bind_none, ↓reduceIte, true_and, and_true, not_true_eq_false, not_false_eq_true]
end MODEL
