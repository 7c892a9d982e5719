/-! ===== a week of the model: its second loop, and the whole ===== -/
theorem s_wk_own (E : Nat) (e : Int) (a : Int → Int) {i : Int} (h : 8 + 9 * e ≤ i) : s_wk E e a i = a i := by
  unfold s_wk
  rw [if_neg (by omega)]
theorem s_wk_low (E : Nat) (e : Int) (a : Int → Int) {i : Int} (h : i < 8) : s_wk E e a i = a i := by
  unfold s_wk
  rw [if_neg (by omega)]
theorem up2_self {R : MR} {k : Nat} {i v : Int} (h : R k i = v) : up2 R k i v = R := by
  funext k' i'
  unfold up2
  split
  · rename_i q; rw [q.1, q.2, h]
  · rfl
theorem up2_ne {R : MR} {k k' : Nat} {i i' v : Int} (h : ¬ (k' = k ∧ i' = i)) : up2 R k i v k' i' = R k' i' := by
  unfold up2
  rw [if_neg h]
theorem up2_eq {R : MR} {k : Nat} {i v : Int} : up2 R k i v k i = v := by
  unfold up2
  rw [if_pos ⟨rfl, rfl⟩]
theorem s_wk_step (E : Nat) (R : MR) (a : Int → Int) {e : Int} (h0 : 0 ≤ e) : up2 (up2 (setA R (s_wk E e a)) 1 (8 + 9 * e + 3) (s_many' E a e)) 1 (8 + 9 * e + 1) (s_loud' E a e) = setA R (s_wk E (e + 1) a) := by
  funext k i
  by_cases hk : k = 1
  · subst hk
    rw [show setA R (s_wk E (e + 1) a) 1 i = s_wk E (e + 1) a i by rw [setA_1]]
    by_cases h1 : i = 8 + 9 * e + 1
    · subst h1
      rw [up2_eq]
      unfold s_wk
      rw [if_pos (by omega), if_neg (by omega), if_pos (by omega), show (8 + 9 * e + 1 - 8) / 9 = e by omega]
    · rw [up2_ne (by omega)]
      by_cases h3 : i = 8 + 9 * e + 3
      · subst h3
        rw [up2_eq]
        unfold s_wk
        rw [if_pos (by omega), if_pos (by omega), show (8 + 9 * e + 3 - 8) / 9 = e by omega]
      · rw [up2_ne (by omega), setA_1]
        unfold s_wk
        by_cases q : 8 ≤ i ∧ i < 8 + 9 * e
        · rw [if_pos q, if_pos (show 8 ≤ i ∧ i < 8 + 9 * (e + 1) by omega)]
        · rw [if_neg q]
          by_cases q2 : 8 ≤ i ∧ i < 8 + 9 * (e + 1)
          · rw [if_pos q2, if_neg (by omega), if_neg (by omega)]
          · rw [if_neg q2]
  · rw [up2_ne (by omega), up2_ne (by omega), setA_n R _ hk, setA_n R _ hk]
theorem s_mat_congr {a b : Int → Int} {e : Int} {n : Nat} (h1 : ∀ i : Nat, i < n → a (8 + 9 * e + (4 + i)) = b (8 + 9 * e + (4 + i))) (h2 : a (8 + 9 * e + 2) = b (8 + 9 * e + 2)) (h3 : a (2 * b (8 + 9 * e + 2) + 1) = b (2 * b (8 + 9 * e + 2) + 1)) : s_mat a e n = s_mat b e n := by
  unfold s_mat
  refine cnt_congr fun k hk => ?_
  rw [h1 k hk, h2, h3]
theorem s_growM_congr {a b : Int → Int} {e k : Int} (h0 : a (8 + 9 * e + 0) = b (8 + 9 * e + 0)) (h1 : ∀ i : Nat, i < k.toNat → a (8 + 9 * e + (4 + i)) = b (8 + 9 * e + (4 + i))) (h2 : a (8 + 9 * e + 2) = b (8 + 9 * e + 2)) (h3 : a (2 * b (8 + 9 * e + 2) + 1) = b (2 * b (8 + 9 * e + 2) + 1)) : s_growM a e k = s_growM b e k := by
  unfold s_growM
  rw [h0, s_mat_congr h1 h2 h3]
theorem s_growM_le {a : Int → Int} {e k : Int} (h : k ≤ 5) : 0 ≤ s_growM a e k ∧ s_growM a e k ≤ 10 := by
  have := s_mat_le a e k.toNat
  unfold s_growM
  grind
theorem s_many'_le {nP : Int} {E : Nat} {a : Int → Int} (hF : FI nP E a) {e : Int} (h0 : 0 ≤ e) (h5 : e < E) : 0 ≤ s_many' E a e ∧ s_many' E a e ≤ 5 := by
  have := hF.ech h0 h5
  unfold s_many'
  grind
theorem s_loud'_le {nP : Int} {E : Nat} {a : Int → Int} (hF : FI nP E a) {e : Int} (h0 : 0 ≤ e) (h5 : e < E) : 0 ≤ s_loud' E a e ∧ s_loud' E a e ≤ 99 := by
  have q := hF.ech h0 h5
  have w := s_many'_le hF h0 h5
  have v := s_growM_le (a := a) (e := e) w.2
  unfold s_loud'
  grind
theorem s_wk_v32 {nP : Int} {E : Nat} {a : Int → Int} (hF : FI nP E a) (ha : ∀ i, -2147483648 ≤ a i ∧ a i < 2147483648) {k : Int} (hk : k ≤ E) : ∀ i, -2147483648 ≤ s_wk E k a i ∧ s_wk E k a i < 2147483648 := by
  intro i
  unfold s_wk
  split
  · rename_i q
    have w := s_many'_le hF (e := (i - 8) / 9) (by omega) (by omega)
    have v := s_loud'_le hF (e := (i - 8) / 9) (by omega) (by omega)
    split
    · omega
    · split
      · omega
      · exact ha i
  · exact ha i
section MODEL
variable {h : Hp} {m : Nat} {R : MR} {S : MSc} {nP nE : Int} {E : Nat}
theorem m_week_L90 (hR : v32R R) (hF : FI nP E (R 1)) (hE : S 4 = E) : ∀ (n e : Nat), e ≤ E → E < e + n → fX4_weekGoes_L90 m (iI (bm (f_spoiled E (R 1)) E)) n (mput h m (setA R (s_wk E e (R 1))) S) (iI e) = some (mput h m (setA R (s_wk E E (R 1))) S) := by
  have h5 : (E : Int) ≤ 5 := hF.2.2.2.1
  intro n
  induction n with
  | zero => intro w h1 h2; omega
  | succ n ih =>
    intro e h1 h2
    rw [fX4_weekGoes_L90]
    simp (disch := omega) only [mi_echoes, Option.bind_some, Option.bind_none, ↓reduceIte, true_and, and_true, not_true_eq_false, not_false_eq_true, hE, iI_le]
    by_cases hw : (E : Int) ≤ e
    · rw [if_pos hw, show e = E by omega]
    · rw [if_neg hw]
      have g := hF.ech (e := e) (by omega) (by omega)
      have mm := s_many'_le hF (e := e) (by omega) (by omega)
      have gg := s_growM_le (a := R 1) (e := e) mm.2
      have hR1 : v32R (setA R (s_wk E e (R 1))) := v32_setA hR (s_wk_v32 hF (hR 1) (by omega))
      have own : ∀ w : Int, 0 ≤ w → setA R (s_wk E e (R 1)) 1 (8 + 9 * e + w) = R 1 (8 + 9 * e + w) := fun w hw => by rw [setA_1, s_wk_own E e (R 1) (by omega)]
      have st1 : (if ((iI (bm (f_spoiled E (R 1)) E) >>> (iI (e : Int) &&& 31)) &&& (iI 1)) = (iI 1) then ((fX4_losesLetter (mput h m (setA R (s_wk E e (R 1))) S) m (iI e)).bind fun o23 => some o23) else some (mput h m (setA R (s_wk E e (R 1))) S)) = some (mput h m (up2 (setA R (s_wk E e (R 1))) 1 (8 + 9 * e + 3) (s_many' E (R 1) e)) S) := by
        rw [bm_at _ (by omega) (by omega), m_losesLetter hR1 (by omega) (by omega), own 3 (by omega)]
        simp only [iI_b1, Option.bind_some, Option.bind_none, ↓reduceIte, true_and, and_true, not_true_eq_false, not_false_eq_true]
        unfold s_many'
        by_cases q : f_spoiled E (R 1) e = true
        · simp only [q, if_true]
        · rw [if_neg q, if_neg q, up2_self (own 3 (by omega))]
      rw [st1]
      simp only [Option.bind_some, Option.bind_none, ↓reduceIte, true_and, and_true, not_true_eq_false, not_false_eq_true]
      have hR2 : v32R (up2 (setA R (s_wk E e (R 1))) 1 (8 + 9 * e + 3) (s_many' E (R 1) e)) := v32_up2 hR1 (by omega) (by omega)
      have ow2 : ∀ w : Int, 0 ≤ w → w ≠ 3 → up2 (setA R (s_wk E e (R 1))) 1 (8 + 9 * e + 3) (s_many' E (R 1) e) 1 (8 + 9 * e + w) = R 1 (8 + 9 * e + w) := fun w hw h3 => by rw [up2_ne (by omega), own w hw]
      have ow3 : up2 (setA R (s_wk E e (R 1))) 1 (8 + 9 * e + 3) (s_many' E (R 1) e) 1 (8 + 9 * e + 3) = s_many' E (R 1) e := up2_eq
      have low : ∀ i : Int, i < 8 → up2 (setA R (s_wk E e (R 1))) 1 (8 + 9 * e + 3) (s_many' E (R 1) e) 1 i = R 1 i := fun i hi => by rw [up2_ne (by omega), setA_1, s_wk_low E e (R 1) hi]
      have fin := s_wk_step E R (R 1) (e := e) (by omega)
      generalize up2 (setA R (s_wk E e (R 1))) 1 (8 + 9 * e + 3) (s_many' E (R 1) e) = R2 at hR2 ow2 ow3 low fin ⊢
      rw [m_isSold hR2 (by omega) (by omega), m_isSilent hR2 (by omega) (by omega)]
      simp only [Option.bind_some, Option.bind_none, ↓reduceIte, true_and, and_true, not_true_eq_false, not_false_eq_true, iI_b0, ow2 2 (by omega) (by omega), ow2 1 (by omega) (by omega), ow3]
      have st2 : ∀ x, x = (if ¬ s_sold (R2 1) e then if ¬ s_silent (R2 1) e then (fX4_of (mput h m R2 S) m (iI e) (iI 1)).bind fun v29 => (fX4_growthOf (mput h m R2 S) m (iI e)).bind fun v30 => (fX4_becomesOf (mput h m R2 S) m (iI e) (iI 1) (if ((v29 + v30) - (iI 1)) ≤ (iI 99) then ((v29 + v30) - (iI 1)) else iI 99)).bind fun o33 => some o33 else some (mput h m R2 S) else some (mput h m R2 S)) → x = some (mput h m (up2 R2 1 (8 + 9 * e + 1) (s_loud' E (R 1) e)) S) := by
        intro x hx
        subst hx
        have sd : s_sold (R2 1) e ↔ s_sold (R 1) e := by unfold s_sold; rw [ow2 2 (by omega) (by omega)]
        have sl : s_silent (R2 1) e ↔ R 1 (8 + 9 * e + 1) = 0 ∨ s_many' E (R 1) e = 0 := by unfold s_silent; rw [ow2 1 (by omega) (by omega), ow3]
        by_cases q : s_sold (R 1) e
        · rw [if_neg (fun z => z (sd.mpr q)), up2_self]
          unfold s_loud'
          rw [if_pos (Or.inl q), ow2 1 (by omega) (by omega)]
        · rw [if_pos (fun z => q (sd.mp z))]
          by_cases q2 : R 1 (8 + 9 * e + 1) = 0 ∨ s_many' E (R 1) e = 0
          · rw [if_neg (fun z => z (sl.mpr q2)), up2_self]
            unfold s_loud'
            rw [if_pos (Or.inr q2), ow2 1 (by omega) (by omega)]
          · rw [if_pos (fun z => q2 (sl.mp z))]
            obtain ⟨p1, p2, p3, d1, d2⟩ := hF.pen (e := e) (by omega) (by omega) q
            rw [m_growthOf hR2 (by omega) (by omega) (by rw [ow2 2 (by omega) (by omega)]; omega) (by rw [ow2 2 (by omega) (by omega)]; omega) (by rw [ow3]; omega) (by rw [ow3]; omega)]
            rw [ow3, s_growM_congr (b := R 1) (ow2 0 (by omega) (by omega)) (fun i _ => ow2 (4 + i) (by omega) (by omega)) (ow2 2 (by omega) (by omega)) (low _ (by omega))]
            simp (disch := omega) only [m_of, Option.bind_some, Option.bind_none, ↓reduceIte, true_and, and_true, not_true_eq_false, not_false_eq_true, ow2 1 (by omega) (by omega), iI_add, iI_sub, iI_le, ite_iI, m_becomesOf]
            rw [show s_loud' E (R 1) e = (if R 1 (8 + 9 * e + 1) + s_growM (R 1) e (s_many' E (R 1) e) - 1 ≤ 99 then R 1 (8 + 9 * e + 1) + s_growM (R 1) e (s_many' E (R 1) e) - 1 else 99) by
              unfold s_loud'
              rw [if_neg (show ¬ (s_sold (R 1) e ∨ R 1 (8 + 9 * e + 1) = 0 ∨ s_many' E (R 1) e = 0) from fun z => z.elim q q2)]]
      refine (congrArg (fun x => Option.bind x (fun o25 => fX4_weekGoes_L90 m (iI (bm (f_spoiled E (R 1)) E)) n o25 (iI (e : Int) + iI 1))) (st2 _ rfl)).trans ?_
      simp only [Option.bind_some, Option.bind_none, ↓reduceIte, true_and, and_true, not_true_eq_false, not_false_eq_true]
      rw [fin, iI_s]
      have k := ih (e + 1) (by omega) (by omega)
      rw [show ((e + 1 : Nat) : Int) = (e : Int) + 1 from rfl] at k ⊢
      exact k
end MODEL
