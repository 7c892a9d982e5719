/-! ===== the model's calls: orders that are met; sales one by one ===== -/
theorem s_ends_mono {T a : Int → Int} {e o : Int} {k i : Nat} (h : s_ends T a e o k = true) (hi : i ≤ k) : s_ends T a e o i = true := by
  induction k with
  | zero => rw [show i = 0 by omega]; exact h
  | succ k ih =>
    by_cases c : i = k + 1
    · rw [c]; exact h
    · rw [s_ends, Bool.and_eq_true] at h
      exact ih h.1 (by omega)
theorem b_or16 : ∀ x : Fin 16, ∀ o : Fin 4, (x.val / 2 ^ o.val) % 2 = 0 → iI (x.val : Int) ||| (iI 1 <<< (iI (o.val : Int) &&& 31)) = iI ((x.val + 2 ^ o.val : Nat) : Int) := by decide +kernel
theorem iI_or16 {x o : Int} (x0 : 0 ≤ x) (x1 : x < 16) (o0 : 0 ≤ o) (o1 : o < 4) (hb : s_bit x o = 0) : iI x ||| (iI 1 <<< (iI o &&& 31)) = iI (x + 2 ^ o.toNat) := by
  have k := b_or16 ⟨x.toNat, by omega⟩ ⟨o.toNat, by omega⟩ (by unfold s_bit at hb; simp only; omega)
  simp only [Int.toNat_of_nonneg x0, Int.toNat_of_nonneg o0] at k
  rw [k]
  congr 1
  rw [Int.natCast_add, Int.toNat_of_nonneg x0, Int.natCast_pow]
  rfl
theorem s_bit_01 (x o : Int) : s_bit x o = 0 ∨ s_bit x o = 1 := by unfold s_bit; omega
section MODEL
variable {h : Hp} {m : Nat} {R : MR} {S : MSc} {nP nE : Int} {E : Nat}
theorem m_isOpen (d0 : 0 ≤ R 1 53) (d1 : R 1 53 < 16) {o : Int} (o0 : 0 ≤ o) (o1 : o < 4) : fX4_isOpen (mput h m R S) m (iI o) = some (iI (if s_bit (R 1 53) o = 0 then 1 else 0)) := by
  have b := s_bit_01 (R 1 53) o
  unfold fX4_isOpen
  simp (disch := omega) only [m_cls, Option.bind_some, Option.bind_none, ↓reduceIte, true_and, and_true, not_true_eq_false, not_false_eq_true, mr_at, ma_at, iI_bit, iI_eq0]
  grind
theorem m_endsSo_L (hR : v32R R) {e o : Int} (e0 : 0 ≤ e) (e5 : e < 5) (o0 : 0 ≤ o) (o4 : o < 4) {k : Nat} (hk : R 3 (8 * o + 0) = k) (hM : (k : Int) ≤ R 1 (8 + 9 * e + 3)) (hM5 : R 1 (8 + 9 * e + 3) ≤ 5) : ∀ (d i n : Nat), i + d = k → d < n → fX4_endsSo_L32 (mput h m R S) m (iI e) (iI o) (iI k) n (iI (if s_ends (R 3) (R 1) e o i = true then 1 else 0)) (iI i) = some (iI (if s_ends (R 3) (R 1) e o k = true then 1 else 0)) := by
  intro d
  induction d with
  | zero =>
    intro i n h1 h2
    cases n with
    | zero => omega
    | succ n =>
      obtain rfl : i = k := by omega
      rw [fX4_endsSo_L32, if_pos (by rw [iI_le] <;> omega)]
  | succ d ih =>
    intro i n h1 h2
    cases n with
    | zero => omega
    | succ n =>
      have r1 := hR 1 (8 + 9 * e + (4 + R 1 (8 + 9 * e + 3) - k + i))
      have r2 := hR 3 (8 * o + 1 + i)
      rw [fX4_endsSo_L32, if_neg (by rw [iI_le] <;> omega)]
      by_cases c : s_ends (R 3) (R 1) e o i = true
      · rw [if_neg (by rw [if_pos c]; decide)]
        simp (disch := omega) only [m_of, Option.bind_some, Option.bind_none, ↓reduceIte, true_and, and_true, not_true_eq_false, not_false_eq_true, iI_add, iI_sub, mr_terms, iI_mul, ma_terms, iI_eq, ite_iI]
        have e1 : (if R 1 (8 + 9 * e + (4 + R 1 (8 + 9 * e + 3) - ↑k + ↑i)) = R 3 (8 * o + 1 + ↑i) then (1 : Int) else 0) = (if s_ends (R 3) (R 1) e o (i + 1) = true then 1 else 0) := by
          rw [s_ends, c, hk]
          simp
        rw [e1, show (i : Int) + 1 = ((i + 1 : Nat) : Int) from rfl]
        exact ih (i + 1) n (by omega) (by omega)
      · rw [if_pos (by rw [if_neg c]; decide)]
        have : ¬ s_ends (R 3) (R 1) e o k = true := fun z => c (s_ends_mono z (by omega))
        rw [if_neg c, if_neg this]
theorem m_endsSo (hR : v32R R) {e o : Int} (e0 : 0 ≤ e) (e5 : e < 5) (o0 : 0 ≤ o) (o4 : o < 4) (hk0 : 0 ≤ R 3 (8 * o + 0)) (hk5 : R 3 (8 * o + 0) ≤ 5) (hM0 : 0 ≤ R 1 (8 + 9 * e + 3)) (hM5 : R 1 (8 + 9 * e + 3) ≤ 5) : fX4_endsSo (mput h m R S) m (iI e) (iI o) = some (iI (if s_so (R 3) (R 1) e o = true then 1 else 0)) := by
  unfold fX4_endsSo
  simp (disch := omega) only [m_cls, Option.bind_some, Option.bind_none, ↓reduceIte, true_and, and_true, not_true_eq_false, not_false_eq_true, mr_terms, iI_mul, iI_add, ma_terms, m_of, iI_lt]
  by_cases c : R 1 (8 + 9 * e + 3) < R 3 (8 * o + 0)
  · rw [if_pos c, show FUEL = (FUEL - 1) + 1 from rfl, fX4_endsSo_L32, if_neg (by rw [iI_le] <;> omega), if_pos (show iI 0 = 0 from rfl)]
    simp only [Option.bind_some, Option.bind_none, ↓reduceIte, true_and, and_true, not_true_eq_false, not_false_eq_true]
    rw [show s_so (R 3) (R 1) e o = false by unfold s_so; rw [decide_eq_false (by omega)]; rfl]
    rfl
  · rw [if_neg c]
    have k := m_endsSo_L (h := h) (m := m) (S := S) hR e0 e5 o0 o4 (k := (R 3 (8 * o + 0)).toNat) (by omega) (by omega) hM5 (R 3 (8 * o + 0)).toNat 0 FUEL (by omega) (by unfold FUEL; omega)
    rw [iI_z, show (if s_ends (R 3) (R 1) e o 0 = true then (1 : Int) else 0) = 1 from rfl, Int.toNat_of_nonneg hk0] at k
    rw [k]
    simp only [Option.bind_some, Option.bind_none, ↓reduceIte, true_and, and_true, not_true_eq_false, not_false_eq_true, ckZ_b]
    rw [show s_so (R 3) (R 1) e o = s_ends (R 3) (R 1) e o (R 3 (8 * o + 0)).toNat by unfold s_so; rw [decide_eq_true (by omega)]; simp]
theorem m_doesMeet (hR : v32R R) (hF : FI nP nE (R 1)) (d0 : 0 ≤ R 1 53) (d1 : R 1 53 < 16) {e o : Int} (e0 : 0 ≤ e) (e1 : e < nE) (o0 : 0 ≤ o) (o4 : o < 4) (hk0 : 0 ≤ R 3 (8 * o + 0)) (hk5 : R 3 (8 * o + 0) ≤ 5) : fX4_doesMeet (mput h m R S) m (iI e) (iI o) = some (iI (if s_meet (R 3) (R 1) e o = true then 1 else 0)) := by
  have g := hF.ech e0 e1
  have r := s_ret_le hF e0 e1
  have t := hR 3 (8 * o + 6)
  unfold fX4_doesMeet
  simp (disch := omega) only [m_cls, Option.bind_some, Option.bind_none, ↓reduceIte, true_and, and_true, not_true_eq_false, not_false_eq_true, m_isOpen, m_isSold hR, m_returnsOf hR hF, m_endsSo hR, mr_terms, iI_mul, iI_add, ma_terms, iI_b0]
  simp (disch := omega) only [iI_lt]
  unfold s_meet
  grind
end MODEL
