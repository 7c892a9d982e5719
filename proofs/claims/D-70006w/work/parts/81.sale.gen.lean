/-! ===== the model's sales: which meet which; what a number earns ===== -/
theorem b_sh5 : ∀ x : Fin 32, ∀ o : Fin 5, (iI (x.val : Int) >>> (iI (o.val : Int) &&& 31)) &&& iI 1 = iI (((x.val / 2 ^ o.val) % 2 : Nat) : Int) := by decide +kernel
theorem iI_bit5 {x o : Int} (x0 : 0 ≤ x) (x1 : x < 32) (o0 : 0 ≤ o) (o1 : o < 5) : (iI x >>> (iI o &&& 31)) &&& iI 1 = iI (s_bit x o) := by
  have k := b_sh5 ⟨x.toNat, by omega⟩ ⟨o.toNat, by omega⟩
  simp only [Int.toNat_of_nonneg x0, Int.toNat_of_nonneg o0] at k
  exact k
theorem b_or32 : ∀ x : Fin 32, ∀ o : Fin 5, (x.val / 2 ^ o.val) % 2 = 0 → iI (x.val : Int) ||| (iI 1 <<< (iI (o.val : Int) &&& 31)) = iI ((x.val + 2 ^ o.val : Nat) : Int) ∧ x.val + 2 ^ o.val < 32 := by decide +kernel
theorem iI_or32 {x o : Int} (x0 : 0 ≤ x) (x1 : x < 32) (o0 : 0 ≤ o) (o1 : o < 5) (hb : s_bit x o = 0) : iI x ||| (iI 1 <<< (iI o &&& 31)) = iI (x + 2 ^ o.toNat) ∧ x + 2 ^ o.toNat < 32 := by
  have k := b_or32 ⟨x.toNat, by omega⟩ ⟨o.toNat, by omega⟩ (by unfold s_bit at hb; simp only; omega)
  have c : ((x.toNat + 2 ^ o.toNat : Nat) : Int) = x + 2 ^ o.toNat := by rw [Int.natCast_add, Int.toNat_of_nonneg x0, Int.natCast_pow]; rfl
  simp only [Int.toNat_of_nonneg x0, Int.toNat_of_nonneg o0, c] at k
  exact ⟨k.1, by have := k.2; omega⟩
theorem m_power : ∀ n : Fin 5, fX4_power (iI 6) (iI (n.val : Int)) = some (iI ((6 ^ n.val : Nat) : Int)) := by decide +kernel
/-- by orders, which echoes meet them -/
def s_mt (T a : Int → Int) (E : Nat) (o : Int) : Int := bm (fun e => s_meet T a e o) E
def setM (R : MR) (a : Int → Int) (E k : Nat) : MR := fun k' i => if k' = 7 ∧ 0 ≤ i ∧ i < (k : Int) then s_mt (R 3) a E i else R k' i
/-- what a number earns: k orders are left -/
def s_earn (M T : Int → Int) : Nat → Int → Int → Int → Int
  | 0, _, sum, _ => sum
  | k + 1, left, sum, ms => if left % 6 - 1 < 0 then s_earn M T k (left / 6) sum ms else if s_bit (M k) (left % 6 - 1) = 0 ∨ s_bit ms (left % 6 - 1) = 1 then -4 else s_earn M T k (left / 6) (sum + T (8 * k + 7)) (ms + 2 ^ (left % 6 - 1).toNat)
section MODEL
variable {h : Hp} {m : Nat} {R : MR} {S : MSc} {nP nE : Int} {E : Nat}
theorem m_findM_E {X : MR} (hR : v32R X) (hF : FI nP E (X 1)) (hE : S 4 = E) (d0 : 0 ≤ X 1 53) (d1 : X 1 53 < 16) {o : Int} (o0 : 0 ≤ o) (o4 : o < 4) (hk0 : 0 ≤ X 3 (8 * o + 0)) (hk5 : X 3 (8 * o + 0) ≤ 5) : fX4_findMeeting_L19 m (iI o) FUEL (mput h m (up2 X 7 o 0) S) (iI 0) = some (mput h m (up2 X 7 o (s_mt (X 3) (X 1) E o)) S) := by
  have f4 : (E : Int) ≤ 5 := hF.2.2.2.1
  obtain ⟨y, hy, e⟩ := lpI (L := fun n x i => fX4_findMeeting_L19 m (iI o) n (mput h m x S) i) (I := fun k x => x = up2 X 7 o (bm (fun e => s_meet (X 3) (X 1) e o) k)) (E := E) (out := fun x => mput h m x S) (fun n x _ => by
      show fX4_findMeeting_L19 m (iI o) (n + 1) (mput h m x S) (iI E) = _
      rw [fX4_findMeeting_L19]
      simp (disch := omega) only [mi_echoes, hE, Option.bind_some, Option.bind_none, ↓reduceIte, true_and, and_true, not_true_eq_false, not_false_eq_true, iI_le]
      rw [if_pos (Int.le_refl _)]) (fun n k x hk hx => by
      subst hx
      have b := bm_lt5 (fun e => s_meet (X 3) (X 1) e o) (E := k) (by omega)
      have a1 : ∀ v, (up2 X 7 o v) 1 = X 1 := fun v => by funext i; exact up2_ne (by omega)
      have a3 : ∀ v, (up2 X 7 o v) 3 = X 3 := fun v => by funext i; exact up2_ne (by omega)
      have km := m_doesMeet (h := h) (m := m) (R := up2 X 7 o (bm (fun e => s_meet (X 3) (X 1) e o) k)) (S := S) (nP := nP) (nE := E) (v32_up2 hR (by omega) (by omega)) (by rw [a1]; exact hF) (by rw [a1]; exact d0) (by rw [a1]; exact d1) (e := k) (o := o) (by omega) (by omega) o0 o4 (by rw [a3]; exact hk0) (by rw [a3]; exact hk5)
      rw [a1, a3] at km
      refine ⟨_, rfl, ?_⟩
      show fX4_findMeeting_L19 m (iI o) (n + 1) (mput h m _ S) (iI k) = fX4_findMeeting_L19 m (iI o) n (mput h m _ S) (iI ((k + 1 : Nat) : Int))
      rw [fX4_findMeeting_L19]
      simp (disch := omega) only [mi_echoes, hE, Option.bind_some, Option.bind_none, ↓reduceIte, true_and, and_true, not_true_eq_false, not_false_eq_true, iI_le, mr_meeting, ma_meeting, up2_eq, km, m_flag]
      rw [bm_or (fun e => s_meet (X 3) (X 1) e o) (by omega) (by simp)]
      simp (disch := omega) only [ms_meeting, Option.bind_some, Option.bind_none, ↓reduceIte, true_and, and_true, not_true_eq_false, not_false_eq_true]
      rw [if_neg (by omega), iI_s]
      congr 2
      funext k' i
      unfold up2
      grind) E 0 FUEL (up2 X 7 o 0) (by omega) (by unfold FUEL; omega) rfl
  rw [iI_z] at e
  rw [e, hy]
  rfl
theorem m_earned_L (hR : v32R R) (hM : ∀ o, 0 ≤ o → o < 4 → 0 ≤ R 7 o ∧ R 7 o < 32) (hT : ∀ o, 0 ≤ o → o < 4 → 0 ≤ R 3 (8 * o + 7) ∧ R 3 (8 * o + 7) ≤ 9) : ∀ (k f : Nat) (left sum some' : Int), k ≤ 4 → k < f → 0 ≤ left → left < 10000 → 0 ≤ sum → sum ≤ 1000 - 9 * k → 0 ≤ some' → some' < 32 → fX4_earned_L15 (mput h m R S) m f (iI left) (iI sum) (iI some') (iI ((k : Int) - 1)) = some (if s_earn (R 7) (R 3) k left sum some' = -4 then .inl (iI (-4)) else .inr (iI (s_earn (R 7) (R 3) k left sum some'))) ∧ -4 ≤ s_earn (R 7) (R 3) k left sum some' ∧ s_earn (R 7) (R 3) k left sum some' ≤ 1000 := by
  intro k
  induction k with
  | zero =>
    intro f left sum some' h1 h2 l0 l1 s0 s1 z0 z1
    cases f with
    | zero => omega
    | succ f =>
      rw [fX4_earned_L15, if_pos (by decide)]
      have : ¬ s_earn (R 7) (R 3) 0 left sum some' = -4 := by show ¬ sum = -4; omega
      rw [if_neg this]
      exact ⟨rfl, by show -4 ≤ sum; omega, by show sum ≤ 1000; omega⟩
  | succ k ih =>
    intro f left sum some' h1 h2 l0 l1 s0 s1 z0 z1
    cases f with
    | zero => omega
    | succ f =>
      have mk := hM k (by omega) (by omega)
      have tk := hT k (by omega) (by omega)
      rw [fX4_earned_L15, show ((k + 1 : Nat) : Int) - 1 = k by omega, if_neg (by rw [iI_lt0] <;> omega)]
      simp (disch := omega) only [iI_rem, iI_dv, Option.bind_some, Option.bind_none, ↓reduceIte, true_and, and_true, not_true_eq_false, not_false_eq_true, iI_sub, iI_lt0, mr_meeting, ma_meeting]
      rw [show iI (k : Int) + iI (-1) = iI ((k : Int) - 1) by rw [iI_add]; rfl]
      rw [s_earn]
      by_cases c : left % 6 - 1 < 0
      · rw [if_pos c, if_pos c]
        exact ih f (left / 6) sum some' (by omega) (by omega) (by omega) (by omega) s0 (by omega) z0 z1
      · rw [if_neg c, if_neg c, iI_bit5 mk.1 mk.2 (by omega) (by omega), iI_bit5 z0 z1 (by omega) (by omega)]
        have b1 := s_bit_01 (R 7 k) (left % 6 - 1)
        have b2 := s_bit_01 some' (left % 6 - 1)
        by_cases c1 : s_bit (R 7 k) (left % 6 - 1) = 0
        · rw [if_pos (by rw [c1]; rfl), if_pos (Or.inl c1)]
          exact ⟨rfl, by omega, by omega⟩
        · rw [if_neg (by rw [iI_eq0] <;> omega)]
          by_cases c2 : s_bit some' (left % 6 - 1) = 1
          · rw [if_pos (by rw [c2]), if_pos (Or.inr c2)]
            exact ⟨rfl, by omega, by omega⟩
          · rw [if_neg (by rw [iI_eq] <;> omega), if_neg (show ¬ (s_bit (R 7 k) (left % 6 - 1) = 0 ∨ s_bit some' (left % 6 - 1) = 1) from fun z => z.elim c1 c2)]
            obtain ⟨o1, o2⟩ := iI_or32 z0 z1 (o := left % 6 - 1) (by omega) (by omega) (by omega)
            have pw : 0 ≤ (2 : Int) ^ (left % 6 - 1).toNat := by exact Int.pow_nonneg (by omega)
            simp (disch := omega) only [mr_terms, iI_mul, iI_add, ma_terms, Option.bind_some, Option.bind_none, ↓reduceIte, true_and, and_true, not_true_eq_false, not_false_eq_true, o1]
            exact ih f (left / 6) (sum + R 3 (8 * k + 7)) (some' + 2 ^ (left % 6 - 1).toNat) (by omega) (by omega) (by omega) (by omega) (by omega) (by omega) (by omega) o2
end MODEL
