/-! ===== the model's calls: near ===== -/
section MODEL
variable {h : Hp} {m : Nat} {R : MR} {S : MSc} {nP nE : Int} {E : Nat}
theorem iI_far : (1000000000 : Int32) = iI 1000000000 := rfl
theorem m_near (I : MI R S E) (ht : ∀ o, 0 ≤ o → o < S 5 → 0 ≤ R 3 (8 * o + 6) ∧ R 3 (8 * o + 6) ≤ 9) {x : Int} (x0 : -2147483648 ≤ x) (x1 : x < 2147483648) : fX4_near (mput h m R S) m (iI x) = some (if ¬ (0 ≤ x ∧ x ≤ 1) then (iI (-1), mput h m R S) else (iI (if (s_nrO (R 3) (cur R) E (S 5).toNat (1000000000, -4)).2 = -4 then -4 else if x = 0 then (s_nrO (R 3) (cur R) E (S 5).toNat (1000000000, -4)).2 else (s_nrO (R 3) (cur R) E (S 5).toNat (1000000000, -4)).1), mput h m (setA R (cur R)) S)) := by
  have o0 := I.o0
  have o4 := I.o4
  unfold fX4_near
  simp (disch := omega) only [m_cls, Option.bind_some, Option.bind_none, ↓reduceIte, true_and, and_true, not_true_eq_false, not_false_eq_true, m_isPart, iI_b0]
  by_cases q : 0 ≤ x ∧ x ≤ 1
  · simp only [q, Option.bind_some, Option.bind_none, ↓reduceIte, true_and, and_true, not_true_eq_false, not_false_eq_true]
    obtain ⟨y, hy, e⟩ := lpI (L := fun n (z : Int × Int) i => fX4_near_L23 (mput h m (setA R (cur R)) S) m (iI x) n (iI z.1) (iI z.2) i) (I := fun k z => z = s_nrO (R 3) (cur R) E k (1000000000, -4) ∧ (0 ≤ z.1 ∧ z.1 ≤ 1000000000) ∧ -4 ≤ z.2 ∧ z.2 ≤ 100) (E := (S 5).toNat) (out := fun z => (iI z.1, iI z.2)) (fun n z _ => by
        show fX4_near_L23 (mput h m (setA R (cur R)) S) m (iI x) (n + 1) (iI z.1) (iI z.2) (iI ((S 5).toNat : Int)) = _
        rw [fX4_near_L23]
        simp (disch := omega) only [mi_orders, Option.bind_some, Option.bind_none, ↓reduceIte, true_and, and_true, not_true_eq_false, not_false_eq_true, iI_le]
        rw [if_pos (by omega)]) (fun n k z hk hz => by
        obtain ⟨k1, k2⟩ := m_near_E (h := h) (m := m) I (iI x) ht (o := k) (by omega) (by omega) (x := z) hz.2.1 hz.2.2
        have hn : s_nrO (R 3) (cur R) E (k + 1) (1000000000, -4) = s_nrE (R 3) (cur R) k E (s_nrO (R 3) (cur R) E k (1000000000, -4)) := rfl
        refine ⟨s_nrE (R 3) (cur R) k E z, ⟨by rw [hz.1, hn], k2⟩, ?_⟩
        show fX4_near_L23 (mput h m (setA R (cur R)) S) m (iI x) (n + 1) (iI z.1) (iI z.2) (iI k) = fX4_near_L23 (mput h m (setA R (cur R)) S) m (iI x) n (iI _) (iI _) (iI ((k + 1 : Nat) : Int))
        rw [fX4_near_L23]
        simp (disch := omega) only [mi_orders, Option.bind_some, Option.bind_none, ↓reduceIte, true_and, and_true, not_true_eq_false, not_false_eq_true, iI_le, k1]
        rw [if_neg (by omega), iI_s]) (S 5).toNat 0 FUEL (1000000000, -4) (by omega) (by unfold FUEL; omega) ⟨rfl, by simp, by simp⟩
    rw [iI_z] at e
    have hy2 := hy.2.2
    rw [hy.1] at e hy2
    simp only [m_starts I.nf, Option.bind_some, Option.bind_none, ↓reduceIte, true_and, and_true, not_true_eq_false, not_false_eq_true, iI_far]
    rw [show fX4_near_L23 (mput h m (setA R (cur R)) S) m (iI x) FUEL (iI 1000000000) (iI (-4)) (iI 0) = _ from e]
    simp (disch := omega) only [Option.bind_some, Option.bind_none, ↓reduceIte, true_and, and_true, not_true_eq_false, not_false_eq_true, iI_eq, iI_eq0]
    grind
  · simp only [q, Option.bind_some, Option.bind_none, ↓reduceIte, true_and, and_true, not_true_eq_false, not_false_eq_true]
end MODEL
