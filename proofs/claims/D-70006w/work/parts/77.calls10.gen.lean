/-! ===== the model's calls: lay, count ===== -/
/-- the sum over those that aren't sold, the first k echoes -/
def s_all (a : Int → Int) (w : Int) : Nat → Int
  | 0 => 0
  | k + 1 => s_all a w k + (if s_sold a k then 0 else a (8 + 9 * k + w))
theorem s_all_le {nP : Int} {E : Nat} {a : Int → Int} (hF : FI nP E a) {w : Int} (hw : w = 1 ∨ w = 3) : ∀ k : Nat, k ≤ E → 0 ≤ s_all a w k ∧ s_all a w k ≤ 99 * k := by
  intro k
  induction k with
  | zero => intro _; exact ⟨Int.le_refl _, Int.le_refl _⟩
  | succ k ih =>
    intro hk
    have g := hF.ech (e := k) (by omega) (by omega)
    have i := ih (by omega)
    have : 0 ≤ a (8 + 9 * (k : Int) + w) ∧ a (8 + 9 * (k : Int) + w) ≤ 99 := by
      rcases hw with z | z <;> subst z <;> omega
    rw [s_all]
    split <;> omega
section MODEL
variable {h : Hp} {m : Nat} {R : MR} {S : MSc} {nP nE : Int} {E : Nat}
theorem m_lay (hR : v32R R) (hl : ∀ k, 0 ≤ k → k < 4 → -4 ≤ R 9 k ∧ R 9 k ≤ 2 ∧ 0 ≤ R 10 k ∧ R 10 k ≤ 40) {k i v : Int} (p0 : -2147483648 ≤ k) (p1 : k < 2147483648) (i0 : -2147483648 ≤ i) (i1 : i < 2147483648) (v0 : -2147483648 ≤ v) (v1 : v < 2147483648) : fX4_lay (mput h m R S) m (iI k) (iI i) (iI v) = some (if ¬ (0 ≤ k ∧ k ≤ 3) then (iI (-1), mput h m R S) else if R 9 k = -4 then (iI (-11), mput h m R S) else if ¬ (0 ≤ i ∧ i ≤ R 10 k - 1) then (iI (-12), mput h m R S) else (iI 1, mput h m (up2 R 11 (40 * k + i) (s_cut (R 9 k) v)) S)) := by
  unfold fX4_lay
  simp (disch := omega) only [m_cls, Option.bind_some, Option.bind_none, ↓reduceIte, true_and, and_true, not_true_eq_false, not_false_eq_true, m_isSheet, iI_b0]
  by_cases q : 0 ≤ k ∧ k ≤ 3
  · have g := hl k q.1 (by omega)
    have z0 : (0 : Int) ≤ 0 ∧ (0 : Int) ≤ 2 := by omega
    simp only [q, z0, and_self, Option.bind_some, Option.bind_none, ↓reduceIte, true_and, and_true, not_true_eq_false, not_false_eq_true]
    simp (disch := omega) only [mr_lanes, ma_lanes, mr_sizes, ma_sizes, Option.bind_some, Option.bind_none, ↓reduceIte, true_and, and_true, not_true_eq_false, not_false_eq_true, iI_eq, iI_sub, iI_long, m_in, iI_b0]
    simp (disch := omega) only [iI_eq0]
    by_cases c1 : R 9 k = -4
    · rw [if_pos c1, if_pos c1]
    · rw [if_neg c1, if_neg c1]
      by_cases c2 : 0 ≤ i ∧ i ≤ R 10 k - 1
      · simp only [c2, Option.bind_some, Option.bind_none, ↓reduceIte, true_and, and_true, not_true_eq_false, not_false_eq_true]
        have key : (if R 9 k = 0 then some (iI v).toInt8.toInt32 else if R 9 k = 1 then some (iI v).toInt16.toInt32 else some (iI v)) = some (iI (s_cut (R 9 k) v)) := by
          unfold s_cut
          by_cases d0 : R 9 k = 0
          · rw [if_pos d0, if_pos d0, ← iI_of]
          · rw [if_neg d0, if_neg d0]
            by_cases d1 : R 9 k = 1
            · rw [if_pos d1, if_pos d1, ← iI_of]
            · rw [if_neg d1, if_neg d1]
        rw [key]
        simp (disch := omega) only [mr_cells, iI_mul, iI_add, ms_cells, Option.bind_some, Option.bind_none, ↓reduceIte, true_and, and_true, not_true_eq_false, not_false_eq_true]
      · simp only [c2, Option.bind_some, Option.bind_none, ↓reduceIte, true_and, and_true, not_true_eq_false, not_false_eq_true]
  · simp only [q, false_and, Option.bind_some, Option.bind_none, ↓reduceIte, true_and, and_true, not_true_eq_false, not_false_eq_true]
theorem m_allOf (hR : v32R R) (hF : FI nP E (R 1)) (hE : S 4 = E) {w : Int} (hw : w = 1 ∨ w = 3) : fX4_allOf (mput h m R S) m (iI w) = some (iI (s_all (R 1) w E)) := by
  have f4 : (E : Int) ≤ 5 := hF.2.2.2.1
  obtain ⟨y, hy, e⟩ := lpI (L := fun n x i => fX4_allOf_L4 (mput h m R S) m (iI w) n (iI x) i) (I := fun k x => x = s_all (R 1) w k) (E := E) (out := fun x => iI x) (fun n x _ => by
      show fX4_allOf_L4 (mput h m R S) m (iI w) (n + 1) (iI x) (iI E) = _
      rw [fX4_allOf_L4]
      simp (disch := omega) only [mi_echoes, hE, Option.bind_some, Option.bind_none, ↓reduceIte, true_and, and_true, not_true_eq_false, not_false_eq_true, iI_le]
      rw [if_pos (Int.le_refl _)]) (fun n k x hk hx => by
      subst hx
      refine ⟨_, rfl, ?_⟩
      show fX4_allOf_L4 (mput h m R S) m (iI w) (n + 1) (iI _) (iI k) = fX4_allOf_L4 (mput h m R S) m (iI w) n (iI _) (iI ((k + 1 : Nat) : Int))
      rw [fX4_allOf_L4]
      simp (disch := omega) only [mi_echoes, hE, Option.bind_some, Option.bind_none, ↓reduceIte, true_and, and_true, not_true_eq_false, not_false_eq_true, iI_le, m_isSold hR, m_of, iI_b0]
      rw [if_neg (by omega), iI_s]
      have key : (if ¬ s_sold (R 1) k then some (iI (R 1 (8 + 9 * (k : Int) + w))) else some (iI 0)) = some (iI (if s_sold (R 1) k then 0 else R 1 (8 + 9 * (k : Int) + w))) := by grind
      rw [key, Option.bind_some, iI_add]
      rfl) E 0 FUEL 0 (by omega) (by unfold FUEL; omega) rfl
  unfold fX4_allOf
  rw [iI_z] at e
  rw [if_pos (m_cls _ _ _ _), e, hy]
  rfl
def s_count (R : MR) (S : MSc) (E : Nat) (x : Int) : Int := if x = 0 then s_all (cur R) 3 E else if x = 1 then s_all (cur R) 1 E else if x = 2 then cur R 56 else if x = 3 then R 2 0 + R 2 1 else if x = 4 then S 14 else if x = 5 then (if R 9 0 = -4 then -4 else R 10 0) else -1
theorem m_count (I : MI R S E) (hk : ∀ i, 0 ≤ i → i < 2 → R 2 i = 0 ∨ R 2 i = 1) {x : Int} (x0 : -2147483648 ≤ x) (x1 : x < 2147483648) : fX4_count (mput h m R S) m (iI x) = some (iI (s_count R S E x), mput h m (setA R (cur R)) S) := by
  have k3 := m_allOf (h := h) (m := m) (S := S) I.ats I.fi I.eE (w := 3) (Or.inr rfl)
  have k1 := m_allOf (h := h) (m := m) (S := S) I.ats I.fi I.eE (w := 1) (Or.inl rfl)
  rw [setA_1] at k1 k3
  have a2 : (setA R (cur R)) 2 = R 2 := setA_n R _ (by decide)
  have a9 : (setA R (cur R)) 9 = R 9 := setA_n R _ (by decide)
  have a10 : (setA R (cur R)) 10 = R 10 := setA_n R _ (by decide)
  have g9 := I.v32 9 0
  have f0 : fX4_flag (iI (R 2 0)) = some (iI (R 2 0)) := by
    rcases hk 0 (by omega) (by omega) with z | z <;> rw [z] <;> rfl
  have f1 : fX4_flag (iI (R 2 1)) = some (iI (R 2 1)) := by
    rcases hk 1 (by omega) (by omega) with z | z <;> rw [z] <;> rfl
  unfold fX4_count
  simp (disch := omega) only [m_cls, Option.bind_some, Option.bind_none, ↓reduceIte, true_and, and_true, not_true_eq_false, not_false_eq_true, m_starts I.nf, iI_eq, k1, k3, mr_st, ma_st, mr_isKept, ma_isKept, mi_taped, mr_lanes, ma_lanes, mr_sizes, ma_sizes, set0, a2, a9, a10, f0, f1, iI_add]
  unfold s_count
  rw [cur_in R (i := 56) (by omega) (by omega)]
  grind
end MODEL
