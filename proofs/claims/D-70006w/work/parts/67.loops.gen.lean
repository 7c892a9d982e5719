/-! ===== loops with a counter, by an invariant ===== -/
theorem lpI {α β : Type} {L : Nat → α → Int32 → Option β} {I : Nat → α → Prop} {E : Nat} {out : α → β} (hE : ∀ n x, I E x → L (n + 1) x (iI E) = some (out x)) (hS : ∀ n k x, k < E → I k x → ∃ y, I (k + 1) y ∧ L (n + 1) x (iI k) = L n y (iI ((k + 1 : Nat) : Int))) : ∀ (d k n : Nat) (x : α), k + d = E → d < n → I k x → ∃ y, I E y ∧ L n x (iI k) = some (out y) := by
  intro d
  induction d with
  | zero =>
    intro k n x h1 h2 h3
    cases n with
    | zero => omega
    | succ n =>
      rw [show k = E by omega] at h3 ⊢
      exact ⟨x, h3, hE n x h3⟩
  | succ d ih =>
    intro k n x h1 h2 h3
    cases n with
    | zero => omega
    | succ n =>
      obtain ⟨y, q1, q2⟩ := hS n k x (by omega) h3
      obtain ⟨z, r1, r2⟩ := ih (k + 1) n y (by omega) (by omega) q1
      exact ⟨z, r1, q2.trans r2⟩
/-- loops that may also be left: by the answer, or on -/
theorem lpS {α β ρ : Type} {L : Nat → α → Int32 → Option (ρ ⊕ β)} {I : Nat → α → Prop} {J : ρ → Prop} {E : Nat} {out : α → β} (hE : ∀ n x, I E x → L (n + 1) x (iI E) = some (.inr (out x))) (hS : ∀ n k x, k < E → I k x → (∃ r, J r ∧ L (n + 1) x (iI k) = some (.inl r)) ∨ ∃ y, I (k + 1) y ∧ L (n + 1) x (iI k) = L n y (iI ((k + 1 : Nat) : Int))) : ∀ (d k n : Nat) (x : α), k + d = E → d < n → I k x → (∃ r, J r ∧ L n x (iI k) = some (.inl r)) ∨ ∃ y, I E y ∧ L n x (iI k) = some (.inr (out y)) := by
  intro d
  induction d with
  | zero =>
    intro k n x h1 h2 h3
    cases n with
    | zero => omega
    | succ n =>
      rw [show k = E by omega] at h3 ⊢
      exact Or.inr ⟨x, h3, hE n x h3⟩
  | succ d ih =>
    intro k n x h1 h2 h3
    cases n with
    | zero => omega
    | succ n =>
      rcases hS n k x (by omega) h3 with ⟨r, q1, q2⟩ | ⟨y, q1, q2⟩
      · exact Or.inl ⟨r, q1, q2⟩
      · rcases ih (k + 1) n y (by omega) (by omega) q1 with ⟨r, r1, r2⟩ | ⟨z, r1, r2⟩
        · exact Or.inl ⟨r, r1, q2.trans r2⟩
        · exact Or.inr ⟨z, r1, q2.trans r2⟩
theorem iI_z : iI ((0 : Nat) : Int) = iI 0 := rfl
/-- nothing beyond the arrays -/
def NF (R : MR) : Prop := ∀ (k : Nat) (i : Int), ¬ (0 ≤ i ∧ i < (mLen k : Int)) → R k i = 0
/-- the farm that holds; the farm that holds, changed -/
def cur (R : MR) : Int → Int := fun i => if 0 ≤ i ∧ i < 75 then R 0 i else 0
def setC (R : MR) (b : Int → Int) : MR := fun k i => if k = 0 ∧ 0 ≤ i ∧ i < 75 then b i else R k i
theorem NF_setA {R : MR} {b : Int → Int} (hN : NF R) (hb : ∀ i, ¬ (0 ≤ i ∧ i < 75) → b i = 0) : NF (setA R b) := by
  intro k i h
  unfold setA
  split
  · rename_i q; subst q; exact hb i h
  · exact hN k i h
theorem NF_up2 {R : MR} (hN : NF R) {k : Nat} {i v : Int} (h1 : 0 ≤ i) (h2 : i < mLen k) : NF (up2 R k i v) := by
  intro k' i' h
  unfold up2
  split
  · rename_i q; obtain ⟨q1, q2⟩ := q; subst q1; subst q2; exact absurd ⟨h1, h2⟩ h
  · exact hN k' i' h
theorem v32_cur {R : MR} (hR : v32R R) : ∀ i, -2147483648 ≤ cur R i ∧ cur R i < 2147483648 := by
  intro i; unfold cur; split
  · exact hR 0 i
  · omega
theorem cur_0 (R : MR) : ∀ i, ¬ (0 ≤ i ∧ i < 75) → cur R i = 0 := fun i h => by unfold cur; rw [if_neg h]
theorem cur_in (R : MR) {i : Int} (h1 : 0 ≤ i) (h2 : i < 75) : cur R i = R 0 i := by unfold cur; rw [if_pos ⟨h1, h2⟩]
theorem cur_setA (R : MR) (b : Int → Int) : cur (setA R b) = cur R := by funext i; unfold cur setA; rfl
theorem cur_setC (R : MR) {b : Int → Int} (hb : ∀ i, ¬ (0 ≤ i ∧ i < 75) → b i = 0) : cur (setC R b) = b := by
  funext i; unfold cur setC
  by_cases h : 0 ≤ i ∧ i < 75
  · rw [if_pos h, if_pos ⟨rfl, h⟩]
  · rw [if_neg h, hb i h]
section MODEL
variable {h : Hp} {m : Nat} {R : MR} {S : MSc} {nP nE : Int} {E : Nat}
theorem m_starts (hN : NF R) : fX4_starts (mput h m R S) m = some (mput h m (setA R (cur R)) S) := by
  obtain ⟨y, hy, e⟩ := lpI (L := fun n x i => fX4_starts_L2 m n (mput h m x S) i) (I := fun k x => x = fun k' i => if k' = 1 ∧ 0 ≤ i ∧ i < (k : Int) then R 0 i else R k' i) (E := 75) (out := fun x => mput h m x S) (fun n x _ => by
      show fX4_starts_L2 m (n + 1) (mput h m x S) (iI 75) = _
      rw [fX4_starts_L2, if_pos (by decide)]) (fun n k x hk hx => by
      refine ⟨up2 x 1 k (x 0 k), ?_, ?_⟩
      · subst hx
        funext k' i
        have e1 : ((k + 1 : Nat) : Int) = (k : Int) + 1 := rfl
        simp only [up2, e1]
        grind
      · show fX4_starts_L2 m (n + 1) (mput h m x S) (iI k) = _
        rw [fX4_starts_L2]
        simp (disch := omega) only [iI_le, Option.bind_some, Option.bind_none, ↓reduceIte, true_and, and_true, not_true_eq_false, not_false_eq_true, mr_at, mr_st, ma_st, ms_at]
        rw [if_neg (by omega), iI_s]) 75 0 FUEL R (by omega) (by unfold FUEL; omega) (by
      funext k' i
      rw [if_neg (by omega)])
  unfold fX4_starts
  rw [if_pos (m_cls _ _ _ _)]
  rw [iI_z] at e
  rw [e, Option.bind_some]
  subst hy
  congr 2
  funext k i
  unfold setA cur
  by_cases c : k = 1
  · rw [if_pos c]
    by_cases c2 : 0 ≤ i ∧ i < 75
    · rw [if_pos c2, if_pos ⟨c, c2.1, by omega⟩]
    · rw [if_neg c2, if_neg (by omega), c]
      exact hN 1 i c2
  · rw [if_neg c, if_neg (fun z => c z.1)]
theorem m_settles : fX4_settles (mput h m R S) m = some (mput h m (setC R (R 1)) S) := by
  obtain ⟨y, hy, e⟩ := lpI (L := fun n x i => fX4_settles_L2 m n (mput h m x S) i) (I := fun k x => x = fun k' i => if k' = 0 ∧ 0 ≤ i ∧ i < (k : Int) then R 1 i else R k' i) (E := 75) (out := fun x => mput h m x S) (fun n x _ => by
      show fX4_settles_L2 m (n + 1) (mput h m x S) (iI 75) = _
      rw [fX4_settles_L2, if_pos (by decide)]) (fun n k x hk hx => by
      refine ⟨up2 x 0 k (x 1 k), ?_, ?_⟩
      · subst hx
        funext k' i
        have e1 : ((k + 1 : Nat) : Int) = (k : Int) + 1 := rfl
        simp only [up2, e1]
        grind
      · show fX4_settles_L2 m (n + 1) (mput h m x S) (iI k) = _
        rw [fX4_settles_L2]
        simp (disch := omega) only [iI_le, Option.bind_some, Option.bind_none, ↓reduceIte, true_and, and_true, not_true_eq_false, not_false_eq_true, mr_at, mr_st, ma_at, ms_st]
        rw [if_neg (by omega), iI_s]) 75 0 FUEL R (by omega) (by unfold FUEL; omega) (by
      funext k' i
      rw [if_neg (by omega)])
  unfold fX4_settles
  rw [if_pos (m_cls _ _ _ _)]
  rw [iI_z] at e
  rw [e, Option.bind_some]
  subst hy
  congr 2
theorem m_weekGoes (hR : v32R R) (hF : FI nP E (R 1)) (hE : S 4 = E) (h54 : R 1 54 < 2000) (h54' : -1 < R 1 54) : fX4_weekGoes (mput h m R S) m = some (mput h m (setA R (s_week E (R 1))) S) := by
  have h5 : (E : Int) ≤ 5 := hF.2.2.2.1
  unfold fX4_weekGoes
  have k1 := m_week_L4 (h := h) (m := m) hR hE (by omega) FUEL 0 (by omega) (by unfold FUEL; omega)
  rw [show iI (bm (f_spoiled E (R 1)) 0) = iI 0 from rfl, iI_z] at k1
  have k2 := m_week_L90 (h := h) (m := m) hR hF hE FUEL 0 (by omega) (by unfold FUEL; omega)
  have z : s_wk E ((0 : Nat) : Int) (R 1) = R 1 := by
    funext i
    unfold s_wk
    rw [if_neg (by omega)]
  rw [z, setA_self, iI_z] at k2
  have w54 : (setA R (s_wk E E (R 1))) 1 54 = R 1 54 := by rw [setA_1, s_wk_own E E (R 1) (by omega)]
  rw [if_pos (m_cls _ _ _ _), k1, Option.bind_some, k2]
  simp (disch := omega) only [Option.bind_some, Option.bind_none, ↓reduceIte, true_and, and_true, not_true_eq_false, not_false_eq_true, mr_at, ma_at, w54, iI_add, ms_at]
  congr 2
  funext k i
  unfold up2 setA s_week
  by_cases c : k = 1
  · rw [if_pos c]
    by_cases c2 : i = 54
    · rw [if_pos ⟨c, c2⟩, if_pos c2, if_pos c]
    · rw [if_neg (fun q => c2 q.2), if_pos c, if_neg c2]
  · rw [if_neg (fun q => c q.1), if_neg c, if_neg c]
end MODEL
theorem s_week_low (E : Nat) (a : Int → Int) {i : Int} (h : i < 8) : s_week E a i = a i := by
  unfold s_week
  rw [if_neg (by omega), s_wk_low E E a h]
theorem s_week_at (E : Nat) (a : Int → Int) {e w : Int} (h0 : 0 ≤ e) (h5 : e < E) (hE : (E : Int) ≤ 5) (w0 : 0 ≤ w) (w9 : w < 9) : s_week E a (8 + 9 * e + w) = if w = 3 then s_many' E a e else if w = 1 then s_loud' E a e else a (8 + 9 * e + w) := by
  unfold s_week s_wk
  rw [if_neg (by omega), if_pos (by omega), show (8 + 9 * e + w - 8) % 9 = w by omega, show (8 + 9 * e + w - 8) / 9 = e by omega]
theorem s_week_out (E : Nat) (a : Int → Int) {i : Int} (h : 8 + 9 * E ≤ i) (h54 : i ≠ 54) : s_week E a i = a i := by
  unfold s_week
  rw [if_neg h54, s_wk_own E E a h]
theorem s_week_54 (E : Nat) (a : Int → Int) : s_week E a 54 = a 54 + 1 := by unfold s_week; rw [if_pos rfl]
theorem FI.week {nP : Int} {E : Nat} {a : Int → Int} (hF : FI nP E a) : FI nP E (s_week E a) := by
  have hF' := hF
  obtain ⟨f1, f2, f3, f4, f5, f6, f7⟩ := hF
  refine ⟨f1, f2, f3, f4, fun p p0 p1 => ?_, fun e e0 e1 => ?_, fun e i e0 e1 i0 i1 => ?_⟩
  · rw [s_week_low E a (by omega), s_week_low E a (by omega)]; exact f5 p p0 p1
  · have g := f6 e e0 e1
    have w := s_many'_le hF' e0 e1
    have v := s_loud'_le hF' e0 e1
    rw [s_week_at E a e0 e1 f4 (w := 0) (by omega) (by omega), s_week_at E a e0 e1 f4 (w := 1) (by omega) (by omega), s_week_at E a e0 e1 f4 (w := 2) (by omega) (by omega), s_week_at E a e0 e1 f4 (w := 3) (by omega) (by omega)]
    rw [if_neg (by decide), if_neg (by decide), if_neg (by decide), if_pos rfl, if_neg (by decide), if_neg (by decide), if_pos rfl]
    exact ⟨g.1, g.2.1, v.1, v.2, g.2.2.2.2.1, w.1, w.2⟩
  · by_cases q : e < E
    · rw [s_week_at E a e0 q f4 (w := 4 + i) (by omega) (by omega), if_neg (by omega), if_neg (by omega)]
      exact f7 e i e0 e1 i0 i1
    · rw [s_week_out E a (by omega) (by omega)]
      exact f7 e i e0 e1 i0 i1
theorem s_week_0 {nP : Int} {E : Nat} {a : Int → Int} (hF : FI nP E a) (h0 : ∀ i, ¬ (0 ≤ i ∧ i < 75) → a i = 0) : ∀ i, ¬ (0 ≤ i ∧ i < 75) → s_week E a i = 0 := by
  have f4 : (E : Int) ≤ 5 := hF.2.2.2.1
  intro i hi
  by_cases q : i < 8
  · rw [s_week_low E a q]; exact h0 i hi
  · rw [s_week_out E a (by omega) (by omega)]; exact h0 i hi
theorem s_week_v32 {nP : Int} {E : Nat} {a : Int → Int} (hF : FI nP E a) (ha : ∀ i, -2147483648 ≤ a i ∧ a i < 2147483648) (h54 : a 54 < 2000) : ∀ i, -2147483648 ≤ s_week E a i ∧ s_week E a i < 2147483648 := by
  intro i
  unfold s_week
  split
  · have := ha 54; omega
  · exact s_wk_v32 hF ha (Int.le_refl _) i
/-- n weeks -/
def s_weeks (E : Nat) (n : Nat) (a : Int → Int) : Int → Int := itr (s_week E) n a
theorem itr_succ {α : Type} (f : α → α) : ∀ (n : Nat) (x : α), itr f (n + 1) x = f (itr f n x) := by
  intro n
  induction n with
  | zero => intro x; rfl
  | succ n ih => intro x; exact ih (f x)
/-- all that is known of a farm at hand -/
def FA (nP nE : Int) (a : Int → Int) : Prop := FI nP nE a ∧ (∀ i, ¬ (0 ≤ i ∧ i < 75) → a i = 0) ∧ (∀ i, -2147483648 ≤ a i ∧ a i < 2147483648)
theorem FA.weeks {nP : Int} {E : Nat} {a : Int → Int} (hF : FA nP E a) (h54 : 0 ≤ a 54) : ∀ n : Nat, a 54 + n < 1050 → FA nP E (s_weeks E n a) ∧ s_weeks E n a 54 = a 54 + n := by
  intro n
  induction n with
  | zero => intro _; exact ⟨hF, by unfold s_weeks itr; omega⟩
  | succ n ih =>
    intro hn
    obtain ⟨⟨g1, g2, g3⟩, g4⟩ := ih (by omega)
    unfold s_weeks at g1 g2 g3 g4 ⊢
    rw [itr_succ]
    exact ⟨⟨g1.week, s_week_0 g1 g2, s_week_v32 g1 g3 (by rw [g4]; omega)⟩, by rw [s_week_54, g4]; omega⟩
