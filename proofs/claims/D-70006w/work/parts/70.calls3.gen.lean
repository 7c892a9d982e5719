/-! ===== the model's calls: one echo, one order; changes ===== -/
theorem b_sh4 : ∀ x : Fin 16, ∀ o : Fin 4, (iI (x.val : Int) >>> (iI (o.val : Int) &&& 31)) &&& iI 1 = iI (((x.val / 2 ^ o.val) % 2 : Nat) : Int) := by decide +kernel
/-- bit o of x -/
def s_bit (x o : Int) : Int := ((x.toNat / 2 ^ o.toNat) % 2 : Nat)
theorem iI_bit {x o : Int} (x0 : 0 ≤ x) (x1 : x < 16) (o0 : 0 ≤ o) (o1 : o < 4) : (iI x >>> (iI o &&& 31)) &&& iI 1 = iI (s_bit x o) := by
  have k := b_sh4 ⟨x.toNat, by omega⟩ ⟨o.toNat, by omega⟩
  simp only [Int.toNat_of_nonneg x0, Int.toNat_of_nonneg o0] at k
  exact k
theorem iI_wrap (a : Int) : iI a = iI (a + 4294967296) := by
  unfold iI
  apply Int32.toInt_inj.mp
  rw [Int32.toInt_ofInt, Int32.toInt_ofInt]
  simp [Int.bmod]
theorem up2_setA (R : MR) (a : Int → Int) (i v : Int) : up2 (setA R a) 1 i v = setA R (fun j => if j = i then v else a j) := by
  funext k j
  unfold up2 setA
  by_cases c : k = 1
  · by_cases c2 : j = i
    · rw [if_pos ⟨c, c2⟩, if_pos c]
      exact (if_pos c2).symm
    · rw [if_neg (fun z => c2 z.2), if_pos c, if_pos c]
      exact (if_neg c2).symm
  · rw [if_neg (fun z => c z.1), if_neg c, if_neg c]
section MODEL
variable {h : Hp} {m : Nat} {R : MR} {S : MSc} {nP nE : Int} {E : Nat}
theorem MI.fi (I : MI R S E) : FI (S 3) E ((setA R (cur R)) 1) := by rw [setA_1]; exact I.fa.1
theorem MI.s4 (I : MI R S E) : -2147483647 ≤ S 4 ∧ S 4 < 2147483648 := by have := I.e5; rw [I.eE]; omega
theorem MI.s3 (I : MI R S E) : -2147483647 ≤ S 3 ∧ S 3 < 2147483648 := by have := I.p4; omega
theorem MI.s5 (I : MI R S E) : -2147483647 ≤ S 5 ∧ S 5 < 2147483648 := by have := I.o0; have := I.o4; omega
def s_echo (R : MR) (E : Nat) (e w : Int) : Int := if ¬ (0 ≤ e ∧ e ≤ E - 1) then -1 else if w = 0 then cur R (8 + 9 * e + 0) else if w = 1 then cur R (8 + 9 * e + 1) else if w = 2 then cur R (8 + 9 * e + 2) else if w = 3 then s_ret (cur R) e else if w = 4 then cur R (8 + 9 * e + 3) else if w = 5 then s_per (cur R) e else -1
theorem m_echo (I : MI R S E) {e w : Int} (p0 : -2147483648 ≤ e) (p1 : e < 2147483648) (w0 : -2147483648 ≤ w) (w1 : w < 2147483648) : fX4_echo (mput h m R S) m (iI e) (iI w) = some (iI (s_echo R E e w), mput h m (mat (¬ (0 ≤ e ∧ e ≤ (E : Int) - 1)) R) S) := by
  have e5 := I.e5
  have s4 := I.s4
  unfold fX4_echo s_echo mat
  simp (disch := omega) only [m_cls, Option.bind_some, Option.bind_none, ↓reduceIte, true_and, and_true, not_true_eq_false, not_false_eq_true, m_isEcho, iI_b0, I.eE]
  by_cases q : 0 ≤ e ∧ e ≤ (E : Int) - 1
  · simp only [q, Option.bind_some, Option.bind_none, ↓reduceIte, true_and, and_true, not_true_eq_false, not_false_eq_true]
    have k3 := m_returnsOf (h := h) (m := m) (S := S) I.ats I.fi (e := e) q.1 (by omega)
    have k5 := m_periodOf (h := h) (m := m) (S := S) I.ats I.fi (e := e) q.1 (by omega)
    rw [setA_1] at k3 k5
    simp (disch := omega) only [m_starts I.nf, Option.bind_some, Option.bind_none, ↓reduceIte, true_and, and_true, not_true_eq_false, not_false_eq_true, iI_eq, k3, k5]
    by_cases c0 : w = 0
    · subst c0; simp (disch := omega) only [m_of, Option.bind_some, Option.bind_none, ↓reduceIte, true_and, and_true, not_true_eq_false, not_false_eq_true, setA_1]
    · simp only [c0, Option.bind_some, Option.bind_none, ↓reduceIte, true_and, and_true, not_true_eq_false, not_false_eq_true]
      by_cases c1 : w = 1
      · subst c1; simp (disch := omega) only [m_of, Option.bind_some, Option.bind_none, ↓reduceIte, true_and, and_true, not_true_eq_false, not_false_eq_true, setA_1]
      · simp only [c1, Option.bind_some, Option.bind_none, ↓reduceIte, true_and, and_true, not_true_eq_false, not_false_eq_true]
        by_cases c2 : w = 2
        · subst c2; simp (disch := omega) only [m_of, Option.bind_some, Option.bind_none, ↓reduceIte, true_and, and_true, not_true_eq_false, not_false_eq_true, setA_1]
        · simp only [c2, Option.bind_some, Option.bind_none, ↓reduceIte, true_and, and_true, not_true_eq_false, not_false_eq_true]
          simp (disch := omega) only [m_of, Option.bind_some, Option.bind_none, ↓reduceIte, true_and, and_true, not_true_eq_false, not_false_eq_true, setA_1]
          grind
  · simp only [q, Option.bind_some, Option.bind_none, ↓reduceIte, true_and, and_true, not_true_eq_false, not_false_eq_true]
def s_letter (R : MR) (E : Nat) (e i : Int) : Int := if ¬ (0 ≤ e ∧ e ≤ E - 1) then -1 else if ¬ (0 ≤ i ∧ i ≤ cur R (8 + 9 * e + 3) - 1) then -1 else cur R (8 + 9 * e + (4 + i))
theorem m_letter (I : MI R S E) {e w : Int} (p0 : -2147483648 ≤ e) (p1 : e < 2147483648) (w0 : -2147483648 ≤ w) (w1 : w < 2147483648) : fX4_letter (mput h m R S) m (iI e) (iI w) = some (iI (s_letter R E e w), mput h m (mat (¬ (0 ≤ e ∧ e ≤ (E : Int) - 1)) R) S) := by
  have e5 := I.e5
  have s4 := I.s4
  unfold fX4_letter s_letter mat
  simp (disch := omega) only [m_cls, Option.bind_some, Option.bind_none, ↓reduceIte, true_and, and_true, not_true_eq_false, not_false_eq_true, m_isEcho, iI_b0, I.eE]
  by_cases q : 0 ≤ e ∧ e ≤ (E : Int) - 1
  · simp only [q, Option.bind_some, Option.bind_none, ↓reduceIte, true_and, and_true, not_true_eq_false, not_false_eq_true]
    have g := I.fa.1.ech (e := e) q.1 (by omega)
    simp (disch := omega) only [m_starts I.nf, Option.bind_some, Option.bind_none, ↓reduceIte, true_and, and_true, not_true_eq_false, not_false_eq_true, m_of, setA_1, iI_sub, iI_long, m_in, iI_b0]
    by_cases c : 0 ≤ w ∧ w ≤ cur R (8 + 9 * e + 3) - 1
    · simp only [c, Option.bind_some, Option.bind_none, ↓reduceIte, true_and, and_true, not_true_eq_false, not_false_eq_true]
      simp (disch := omega) only [iI_add, m_of, Option.bind_some, Option.bind_none, ↓reduceIte, true_and, and_true, not_true_eq_false, not_false_eq_true, setA_1]
    · simp only [c, Option.bind_some, Option.bind_none, ↓reduceIte, true_and, and_true, not_true_eq_false, not_false_eq_true]
  · simp only [q, Option.bind_some, Option.bind_none, ↓reduceIte, true_and, and_true, not_true_eq_false, not_false_eq_true]
def s_order (R : MR) (S : MSc) (o w : Int) : Int := if ¬ (0 ≤ o ∧ o ≤ S 5 - 1) then -1 else if w = 0 then R 3 (8 * o + 6) else if w = 1 then R 3 (8 * o + 7) else if w = 2 then R 3 (8 * o + 0) else if w = 3 then s_bit (cur R 53) o else if ¬ (0 ≤ w - 10 ∧ w - 10 ≤ R 3 (8 * o + 0) - 1) then -1 else R 3 (8 * o + 1 + w - 10)
theorem m_order (I : MI R S E) {o w : Int} (p0 : -2147483648 ≤ o) (p1 : o < 2147483648) (w0 : -2147483648 ≤ w) (w1 : w < 2147483648) : fX4_order (mput h m R S) m (iI o) (iI w) = some (iI (s_order R S o w)) := by
  have s5 := I.s5
  have o4 := I.o4
  have d0 := I.d0
  have d1 := I.d1
  rw [cur_in R (by omega) (by omega)] at d0 d1
  unfold fX4_order s_order
  simp (disch := omega) only [m_cls, Option.bind_some, Option.bind_none, ↓reduceIte, true_and, and_true, not_true_eq_false, not_false_eq_true, m_isOrder, iI_b0]
  by_cases q : 0 ≤ o ∧ o ≤ S 5 - 1
  · simp only [q, Option.bind_some, Option.bind_none, ↓reduceIte, true_and, and_true, not_true_eq_false, not_false_eq_true]
    have t := I.tm o q.1 (by omega)
    rw [cur_in R (i := 53) (by omega) (by omega)]
    simp (disch := omega) only [iI_eq, mr_terms, mr_st, ma_st, Option.bind_some, Option.bind_none, ↓reduceIte, true_and, and_true, not_true_eq_false, not_false_eq_true, iI_mul, iI_add, ma_terms, iI_bit, iI_sub]
    by_cases c : w - 10 < -2147483648
    · rw [iI_wrap (w - 10)]
      simp (disch := omega) only [iI_long, m_in, Option.bind_some, Option.bind_none, ↓reduceIte, true_and, and_true, not_true_eq_false, not_false_eq_true, iI_b0]
      grind
    · simp (disch := omega) only [iI_long, m_in, Option.bind_some, Option.bind_none, ↓reduceIte, true_and, and_true, not_true_eq_false, not_false_eq_true, iI_b0]
      by_cases c2 : 0 ≤ w - 10 ∧ w - 10 ≤ R 3 (8 * o + 0) - 1
      · simp (disch := omega) only [iI_add, iI_sub, ma_terms, Option.bind_some, Option.bind_none, ↓reduceIte, true_and, and_true, not_true_eq_false, not_false_eq_true]
        grind
      · grind
  · simp only [q, Option.bind_some, Option.bind_none, ↓reduceIte, true_and, and_true, not_true_eq_false, not_false_eq_true]
end MODEL
