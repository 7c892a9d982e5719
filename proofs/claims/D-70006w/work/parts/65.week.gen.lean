/-! ===== a week of the model ===== -/
def anyN (f : Int → Bool) : Nat → Bool
  | 0 => false
  | n + 1 => anyN f n || f n
def itr {α : Type} (f : α → α) : Nat → α → α
  | 0, x => x
  | n + 1, x => itr f n (f x)
def setA (R : MR) (b : Int → Int) : MR := fun k i => if k = 1 then b i else R k i
theorem setA_1 (R : MR) (b : Int → Int) : (setA R b) 1 = b := by funext i; simp [setA]
theorem setA_n (R : MR) (b : Int → Int) {k : Nat} (hk : k ≠ 1) : (setA R b) k = R k := by funext i; simp [setA, hk]
theorem setA_self (R : MR) : setA R (R 1) = R := by
  funext k i
  unfold setA
  split
  · rename_i q; rw [q]
  · rfl
theorem setA_setA (R : MR) (b c : Int → Int) : setA (setA R b) c = setA R c := by
  funext k i
  unfold setA
  split <;> rfl
theorem v32_setA {R : MR} {b : Int → Int} (hR : v32R R) (hb : ∀ i, -2147483648 ≤ b i ∧ b i < 2147483648) : v32R (setA R b) := by
  intro k i
  unfold setA
  split
  · exact hb i
  · exact hR k i
theorem v32_up2 {R : MR} (hR : v32R R) {k : Nat} {i v : Int} (h1 : -2147483648 ≤ v) (h2 : v < 2147483648) : v32R (up2 R k i v) := by
  intro k' i'
  unfold up2
  split
  · exact ⟨h1, h2⟩
  · exact hR k' i'
/-- a wild one in the same pen, heard -/
def f_spo (a : Int → Int) (e : Int) : Int → Bool := fun w => decide (¬ s_sold a e ∧ a (8 + 9 * e + 0) ≠ 3 ∧ a (8 + 9 * w + 2) = a (8 + 9 * e + 2) ∧ a (8 + 9 * w + 0) = 3 ∧ ¬ s_silent a w)
def f_spoiled (E : Nat) (a : Int → Int) : Int → Bool := fun e => anyN (f_spo a e) E
def s_many' (E : Nat) (a : Int → Int) (e : Int) : Int := if f_spoiled E a e = true then (if a (8 + 9 * e + 3) ≤ 0 then 0 else a (8 + 9 * e + 3) - 1) else a (8 + 9 * e + 3)
def s_growM (a : Int → Int) (e k : Int) : Int := if a (8 + 9 * e + 0) = 1 then 2 * s_mat a e k.toNat else if a (8 + 9 * e + 0) = 3 then 2 * s_mat a e k.toNat else if a (8 + 9 * e + 0) = 2 then (if s_mat a e k.toNat ≤ 1 then s_mat a e k.toNat else 1) else s_mat a e k.toNat
def s_loud' (E : Nat) (a : Int → Int) (e : Int) : Int := if s_sold a e ∨ a (8 + 9 * e + 1) = 0 ∨ s_many' E a e = 0 then a (8 + 9 * e + 1) else if a (8 + 9 * e + 1) + s_growM a e (s_many' E a e) - 1 ≤ 99 then a (8 + 9 * e + 1) + s_growM a e (s_many' E a e) - 1 else 99
/-- the first k echoes have had their week -/
def s_wk (E : Nat) (k : Int) (a : Int → Int) : Int → Int := fun i => if 8 ≤ i ∧ i < 8 + 9 * k then (if (i - 8) % 9 = 3 then s_many' E a ((i - 8) / 9) else if (i - 8) % 9 = 1 then s_loud' E a ((i - 8) / 9) else a i) else a i
def s_week (E : Nat) (a : Int → Int) : Int → Int := fun i => if i = 54 then a 54 + 1 else s_wk E E a i
theorem b_or5' : ∀ n : Fin 5, ∀ s : Fin 16, s.val < 2 ^ n.val → ∀ b c : Bool, iI ((s.val : Int) + (if b = true then 2 ^ n.val else 0)) ||| (iI (if c = true then 1 else 0) <<< (iI (n.val : Int) &&& 31)) = iI ((s.val : Int) + (if (b || c) = true then 2 ^ n.val else 0)) := by decide +kernel
theorem bm_or' (f : Int → Bool) {n : Nat} (hn : n < 5) (b c : Bool) : iI (bm f n + (if b = true then 2 ^ n else 0)) ||| (iI (if c = true then 1 else 0) <<< (iI n &&& 31)) = iI (bm f n + (if (b || c) = true then 2 ^ n else 0)) := by
  obtain ⟨h1, h2⟩ := bm_lt f n
  obtain ⟨s, hs⟩ : ∃ s : Nat, bm f n = s := ⟨(bm f n).toNat, by omega⟩
  have hp : (2 : Int) ^ n = ((2 ^ n : Nat) : Int) := by simp
  have h3 : s < 2 ^ n := by rw [hs, hp] at h2; omega
  have h16 : (2 : Nat) ^ n ≤ 16 := by
    have : n = 0 ∨ n = 1 ∨ n = 2 ∨ n = 3 ∨ n = 4 := by omega
    rcases this with h | h | h | h | h <;> subst h <;> decide
  rw [hs]
  exact b_or5' ⟨n, hn⟩ ⟨s, by omega⟩ h3 b c
section MODEL
variable {h : Hp} {m : Nat} {R : MR} {S : MSc} {nP nE : Int} {E : Nat}
theorem m_week_L14 (hR : v32R R) (hE : S 4 = E) (h5 : E ≤ 5) {e : Nat} (he : e < E) (f : Int → Bool) : ∀ (n w : Nat), w ≤ E → E < w + n → fX4_weekGoes_L14 (mput h m R S) m (iI e) n (iI (bm f e + (if anyN (f_spo (R 1) e) w = true then 2 ^ e else 0))) (iI w) = some (iI (bm f e + (if anyN (f_spo (R 1) e) E = true then 2 ^ e else 0))) := by
  intro n
  induction n with
  | zero => intro w h1 h2; omega
  | succ n ih =>
    intro w h1 h2
    have q0 := hR 1 (8 + 9 * e + 0)
    have q2 := hR 1 (8 + 9 * e + 2)
    have q3 := hR 1 (8 + 9 * w + 2)
    rw [fX4_weekGoes_L14]
    simp (disch := omega) only [mi_echoes, Option.bind_some, Option.bind_none, ↓reduceIte, true_and, and_true, not_true_eq_false, not_false_eq_true, hE, iI_le]
    by_cases hw : (E : Int) ≤ w
    · rw [if_pos hw, show w = E by omega]
    · rw [if_neg hw]
      simp (disch := omega) only [m_isSold hR, m_of, Option.bind_some, Option.bind_none, ↓reduceIte, true_and, and_true, not_true_eq_false, not_false_eq_true, iI_eq, m_isWildOne hR, iI_b0]
      have key : (if ¬s_sold (R 1) ↑e then if R 1 (8 + 9 * ↑e + 0) = 3 then some (iI 0) else if R 1 (8 + 9 * ↑w + 2) = R 1 (8 + 9 * ↑e + 2) then if ¬(R 1 (8 + 9 * ↑w + 0) = 3 ∧ ¬s_silent (R 1) ↑w) then some (iI 0) else some (iI 1) else some (iI 0) else some (iI 0)) = some (iI (if f_spo (R 1) e w = true then 1 else 0)) := by
        unfold f_spo
        grind
      rw [key]
      simp only [Option.bind_some, Option.bind_none, ↓reduceIte, true_and, and_true, not_true_eq_false, not_false_eq_true]
      rw [show fX4_flag (iI (if f_spo (R 1) e w = true then 1 else 0)) = some (iI (if f_spo (R 1) e w = true then 1 else 0)) from m_flag _]
      simp only [Option.bind_some, Option.bind_none, ↓reduceIte, true_and, and_true, not_true_eq_false, not_false_eq_true]
      rw [bm_or' f (by omega), iI_s]
      exact ih (w + 1) (by omega) (by omega)
theorem m_week_L4 (hR : v32R R) (hE : S 4 = E) (h5 : E ≤ 5) : ∀ (n e : Nat), e ≤ E → E < e + n → fX4_weekGoes_L4 (mput h m R S) m n (iI (bm (f_spoiled E (R 1)) e)) (iI e) = some (iI (bm (f_spoiled E (R 1)) E)) := by
  intro n
  induction n with
  | zero => intro w h1 h2; omega
  | succ n ih =>
    intro e h1 h2
    rw [fX4_weekGoes_L4]
    simp (disch := omega) only [mi_echoes, Option.bind_some, Option.bind_none, ↓reduceIte, true_and, and_true, not_true_eq_false, not_false_eq_true, hE, iI_le]
    by_cases hw : (E : Int) ≤ e
    · rw [if_pos hw, show e = E by omega]
    · rw [if_neg hw]
      have k := m_week_L14 (h := h) (m := m) hR hE h5 (e := e) (by omega) (f_spoiled E (R 1)) FUEL 0 (by omega) (by unfold FUEL; omega)
      rw [show (if anyN (f_spo (R 1) e) 0 = true then (2 : Int) ^ e else 0) = 0 from rfl, Int.add_zero, show iI ((0 : Nat) : Int) = iI 0 from rfl] at k
      rw [k]
      simp only [Option.bind_some, Option.bind_none, ↓reduceIte, true_and, and_true, not_true_eq_false, not_false_eq_true]
      rw [iI_s]
      exact ih (e + 1) (by omega) (by omega)
theorem s_mat_le (a : Int → Int) (e : Int) (n : Nat) : 0 ≤ s_mat a e n ∧ s_mat a e n ≤ n := cnt_le _ n
theorem m_growth_L (hR : v32R R) {e : Int} (h0 : 0 ≤ e) (h5 : e < 5) (p0 : 0 ≤ R 1 (8 + 9 * e + 2)) (p4 : R 1 (8 + 9 * e + 2) < 4) {k : Nat} (hk : R 1 (8 + 9 * e + 3) = k) (k5 : k ≤ 5) : ∀ (n i : Nat), i ≤ k → k < i + n → fX4_growthOf_L4 (mput h m R S) m (iI e) n (iI (s_mat (R 1) e i)) (iI i) = some (iI (s_mat (R 1) e k)) := by
  intro n
  induction n with
  | zero => intro i h1 h2; omega
  | succ n ih =>
    intro i h1 h2
    have q1 := hR 1 (8 + 9 * e + (4 + i))
    have q2 := hR 1 (2 * R 1 (8 + 9 * e + 2) + 1)
    have sv : -4 ≤ s_vow (R 1 (8 + 9 * e + (4 + i))) ∧ s_vow (R 1 (8 + 9 * e + (4 + i))) ≤ 4 := by unfold s_vow; grind
    rw [fX4_growthOf_L4]
    simp (disch := omega) only [m_of, Option.bind_some, Option.bind_none, ↓reduceIte, true_and, and_true, not_true_eq_false, not_false_eq_true, hk, iI_le]
    by_cases hw : (k : Int) ≤ i
    · rw [if_pos hw, show i = k by omega]
    · rw [if_neg hw]
      simp (disch := omega) only [iI_add, m_of, Option.bind_some, Option.bind_none, ↓reduceIte, true_and, and_true, not_true_eq_false, not_false_eq_true, m_vowelOf, mr_at, iI_mul, ma_at, iI_eq, ite_iI, m_flag]
      have e1 : s_mat (R 1) e i + (if s_vow (R 1 (8 + 9 * e + (4 + ↑i))) = R 1 (2 * R 1 (8 + 9 * e + 2) + 1) then 1 else 0) = s_mat (R 1) e (i + 1) := by
        unfold s_mat
        rw [cnt]
        simp
      rw [e1, show ((i : Int) + 1) = ((i + 1 : Nat) : Int) from rfl]
      exact ih (i + 1) (by omega) (by omega)
theorem m_growthOf (hR : v32R R) {e : Int} (h0 : 0 ≤ e) (h5 : e < 5) (p0 : 0 ≤ R 1 (8 + 9 * e + 2)) (p4 : R 1 (8 + 9 * e + 2) < 4) (k0 : 0 ≤ R 1 (8 + 9 * e + 3)) (k5 : R 1 (8 + 9 * e + 3) ≤ 5) : fX4_growthOf (mput h m R S) m (iI e) = some (iI (s_growM (R 1) e (R 1 (8 + 9 * e + 3)))) := by
  have q := hR 1 (8 + 9 * e + 0)
  have w := s_mat_le (R 1) e (R 1 (8 + 9 * e + 3)).toNat
  have k := m_growth_L (h := h) (m := m) (S := S) hR h0 h5 p0 p4 (k := (R 1 (8 + 9 * e + 3)).toNat) (by omega) (by omega) FUEL 0 (by omega) (by unfold FUEL; omega)
  rw [show s_mat (R 1) e 0 = 0 from rfl, show iI ((0 : Nat) : Int) = iI 0 from rfl] at k
  unfold fX4_growthOf
  rw [if_pos (m_cls _ _ _ _), k]
  simp (disch := omega) only [Option.bind_some, Option.bind_none, ↓reduceIte, true_and, and_true, not_true_eq_false, not_false_eq_true, m_of, iI_eq, iI_mul, iI_le]
  unfold s_growM
  grind
end MODEL
