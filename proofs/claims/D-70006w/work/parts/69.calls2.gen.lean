/-! ===== the model's calls: what there is; changes ===== -/
theorem b_an5 : ∀ b0 b1 b2 b3 b4 c0 c1 c2 c3 c4 : Bool, iI (vb b0 + vb b1 * 2 + vb b2 * 4 + vb b3 * 8 + vb b4 * 16) &&& (iI (vb c0 + vb c1 * 2 + vb c2 * 4 + vb c3 * 8 + vb c4 * 16) ^^^ iI (-1)) = iI (vb (b0 && !c0) + vb (b1 && !c1) * 2 + vb (b2 && !c2) * 4 + vb (b3 && !c3) * 8 + vb (b4 && !c4) * 16) := by decide +kernel
theorem bm_an (f g : Int → Bool) {n : Nat} (hn : n ≤ 5) : iI (bm f n) &&& (iI (bm g n) ^^^ iI (-1)) = iI (bm (fun e => f e && !(g e)) n) := by
  rw [bm_5 f hn, bm_5 g hn, bm_5 (fun e => f e && !(g e)) hn, b_an5]
  have : n = 0 ∨ n = 1 ∨ n = 2 ∨ n = 3 ∨ n = 4 ∨ n = 5 := by omega
  rcases this with h | h | h | h | h | h <;> subst h <;> simp [vb]
theorem bm_lt5 (f : Int → Bool) {E : Nat} (h : E ≤ 5) : 0 ≤ bm f E ∧ bm f E < 32 := by
  have q := bm_lt f E
  have : (2 : Int) ^ E ≤ 32 := by
    have : E = 0 ∨ E = 1 ∨ E = 2 ∨ E = 3 ∨ E = 4 ∨ E = 5 := by omega
    rcases this with h | h | h | h | h | h <;> subst h <;> decide
  omega
/-- what the model knows -/
def MI (R : MR) (S : MSc) (E : Nat) : Prop := (v32R R) ∧ (NF R) ∧ (S 4 = E) ∧ (FA (S 3) E (cur R)) ∧ (0 ≤ S 5) ∧ (S 5 ≤ 4) ∧ (0 ≤ cur R 54) ∧ (cur R 54 ≤ 999) ∧ (0 ≤ cur R 53) ∧ (cur R 53 < 16) ∧ (∀ o, 0 ≤ o → o < S 5 → 0 ≤ R 3 (8 * o + 0) ∧ R 3 (8 * o + 0) ≤ 5)
theorem MI.v32 {R : MR} {S : MSc} {E : Nat} (I : MI R S E) : v32R R := I.1
theorem MI.nf {R : MR} {S : MSc} {E : Nat} (I : MI R S E) : NF R := I.2.1
theorem MI.eE {R : MR} {S : MSc} {E : Nat} (I : MI R S E) : S 4 = E := I.2.2.1
theorem MI.fa {R : MR} {S : MSc} {E : Nat} (I : MI R S E) : FA (S 3) E (cur R) := I.2.2.2.1
theorem MI.o0 {R : MR} {S : MSc} {E : Nat} (I : MI R S E) : 0 ≤ S 5 := I.2.2.2.2.1
theorem MI.o4 {R : MR} {S : MSc} {E : Nat} (I : MI R S E) : S 5 ≤ 4 := I.2.2.2.2.2.1
theorem MI.wk0 {R : MR} {S : MSc} {E : Nat} (I : MI R S E) : 0 ≤ cur R 54 := I.2.2.2.2.2.2.1
theorem MI.wk1 {R : MR} {S : MSc} {E : Nat} (I : MI R S E) : cur R 54 ≤ 999 := I.2.2.2.2.2.2.2.1
theorem MI.d0 {R : MR} {S : MSc} {E : Nat} (I : MI R S E) : 0 ≤ cur R 53 := I.2.2.2.2.2.2.2.2.1
theorem MI.d1 {R : MR} {S : MSc} {E : Nat} (I : MI R S E) : cur R 53 < 16 := I.2.2.2.2.2.2.2.2.2.1
theorem MI.tm {R : MR} {S : MSc} {E : Nat} (I : MI R S E) : ∀ o, 0 ≤ o → o < S 5 → 0 ≤ R 3 (8 * o + 0) ∧ R 3 (8 * o + 0) ≤ 5 := I.2.2.2.2.2.2.2.2.2.2
section MODEL
variable {h : Hp} {m : Nat} {R : MR} {S : MSc} {nP nE : Int} {E : Nat}
theorem MI.e5 (I : MI R S E) : E ≤ 5 := by have := I.fa.1.2.2.2.1; omega
theorem MI.p4 (I : MI R S E) : 0 ≤ S 3 ∧ S 3 ≤ 4 := ⟨I.fa.1.1, I.fa.1.2.1⟩
theorem MI.ats (I : MI R S E) : v32R (setA R (cur R)) := v32_setA I.v32 I.fa.2.2
theorem set0 (R : MR) (b : Int → Int) : (setA R b) 0 = R 0 := setA_n R b (by decide)
def s_rule (R : MR) (S : MSc) (E : Nat) (x : Int) : Int := if x = 0 then S 3 else if x = 1 then E else if x = 2 then S 5 else if x = 3 then cur R 54 else if x = 4 then cur R 55 else if x = 5 then bm (f_in (cur R) (-4)) E else if x = 6 then bm (fun e => f_sil (cur R) e && !(f_in (cur R) (-4) e)) E else if x = 7 then cur R 53 else -1
theorem m_rule (I : MI R S E) {x : Int} (x0 : -2147483648 ≤ x) (x1 : x < 2147483648) : fX4_rule (mput h m R S) m (iI x) = some (iI (s_rule R S E x), mput h m (setA R (cur R)) S) := by
  have e5 := I.e5
  have b1 := bm_lt5 (f_sil (cur R)) e5
  have b2 := bm_lt5 (f_in (cur R) (-4)) e5
  have k1 := m_inPen (h := h) (m := m) (p := -4) I.ats I.eE e5 (by omega) (by omega)
  have k2 := m_silentNow (h := h) (m := m) I.ats I.eE e5
  rw [setA_1] at k1 k2
  unfold fX4_rule
  simp (disch := omega) only [m_cls, Option.bind_some, Option.bind_none, ↓reduceIte, true_and, and_true, not_true_eq_false, not_false_eq_true, m_starts I.nf, iI_eq, mi_pens, mi_echoes, mi_orders, mr_st, ma_st, k1, k2, set0, bm_an _ _ e5, I.eE]
  unfold s_rule
  rw [cur_in R (i := 54) (by omega) (by omega), cur_in R (i := 55) (by omega) (by omega), cur_in R (i := 53) (by omega) (by omega)]
  grind
def s_pen (R : MR) (S : MSc) (E : Nat) (p w : Int) : Int := if ¬ (0 ≤ p ∧ p ≤ S 3 - 1) ∨ ¬ (0 ≤ w ∧ w ≤ 2) then -1 else if 2 ≤ w then bm (f_in (cur R) p) E else cur R (2 * p + w)
/-- the farm at hand was looked at, or not -/
def mat (c : Prop) [Decidable c] (R : MR) : MR := if c then R else setA R (cur R)
theorem m_pen (I : MI R S E) {p w : Int} (p0 : -2147483648 ≤ p) (p1 : p < 2147483648) (w0 : -2147483648 ≤ w) (w1 : w < 2147483648) : fX4_pen (mput h m R S) m (iI p) (iI w) = some (iI (s_pen R S E p w), mput h m (mat (¬ (0 ≤ p ∧ p ≤ S 3 - 1) ∨ ¬ (0 ≤ w ∧ w ≤ 2)) R) S) := by
  have e5 := I.e5
  have p4 := I.p4
  have k1 := m_inPen (h := h) (m := m) (p := p) I.ats I.eE e5 (by omega) (by omega)
  rw [setA_1] at k1
  unfold fX4_pen s_pen mat
  simp (disch := omega) only [m_cls, Option.bind_some, Option.bind_none, ↓reduceIte, true_and, and_true, not_true_eq_false, not_false_eq_true, m_isPen, iI_b0, iI_long, lc2, lc3, lc4, lc5, lc6, lc8, lc9, lc10, lc20, lc30, lc48, lc57, lc97, lc99, lc122, lc127, m_in]
  by_cases q : 0 ≤ p ∧ p ≤ S 3 - 1
  · simp only [q, Option.bind_some, Option.bind_none, ↓reduceIte, true_and, and_true, not_true_eq_false, not_false_eq_true]
    by_cases q2 : 0 ≤ w ∧ w ≤ 2
    · simp only [q2, not_true_eq_false, or_self, or_false, false_or, Option.bind_some, Option.bind_none, ↓reduceIte, true_and, and_true, not_true_eq_false, not_false_eq_true]
      simp (disch := omega) only [m_starts I.nf, Option.bind_some, Option.bind_none, ↓reduceIte, true_and, and_true, not_true_eq_false, not_false_eq_true, iI_le, k1, mr_at, iI_mul, iI_add, ma_at, setA_1]
      grind
    · simp only [q2, not_false_eq_true, or_true, Option.bind_some, Option.bind_none, ↓reduceIte, true_and, and_true, not_true_eq_false, not_false_eq_true]
  · simp only [q, not_false_eq_true, true_or, Option.bind_some, Option.bind_none, ↓reduceIte, true_and, and_true, not_true_eq_false, not_false_eq_true]
end MODEL
