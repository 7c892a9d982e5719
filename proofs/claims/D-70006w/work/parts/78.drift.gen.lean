/-! ===== the model's calls: drift ===== -/
def s_seed (v : Int32) : Int32 := (v * (1103515245 : Int32)) + iI 12345
def s_pick (v : Int32) : Int := ((v >>> ((iI 16) &&& 31)) &&& (iI 32767)).toInt
theorem s_pick_le (v : Int32) : 0 ≤ s_pick v ∧ s_pick v ≤ 32767 := by
  unfold s_pick
  generalize v >>> ((iI 16) &&& 31) = y
  have h1 : (y &&& iI 32767).toBitVec.toNat ≤ 32767 := by
    rw [Int32.toBitVec_and, BitVec.toNat_and]
    exact Nat.and_le_right
  have h2 : (y &&& iI 32767).toInt = ((y &&& iI 32767).toBitVec.toNat : Int) := by
    show (y &&& iI 32767).toBitVec.toInt = _
    rw [BitVec.toInt_eq_toNat_cond, if_pos (by omega)]
  omega
/-- an echo loses a letter -/
def s_lose (a : Int → Int) (e : Int) : Int → Int := put1 a (8 + 9 * e + 3) (if a (8 + 9 * e + 3) ≤ 0 then 0 else a (8 + 9 * e + 3) - 1)
def s_dr1 (E : Nat) (v : Int32) (a : Int → Int) : Int → Int := s_week E (if s_sold a (s_pick v % E) then a else s_lose a (s_pick v % E))
def s_drift (E : Nat) : Nat → Int32 → (Int → Int) → Int → Int
  | 0, _, a => a
  | n + 1, v, a => s_drift E n (s_seed v) (s_dr1 E (s_seed v) a)
theorem FA.lose {nP : Int} {E : Nat} {a : Int → Int} (hF : FA nP E a) {e : Int} (e0 : 0 ≤ e) (e1 : e < E) : FA nP E (s_lose a e) ∧ s_lose a e 54 = a 54 := by
  obtain ⟨hI, h0, hv⟩ := hF
  have g := hI.ech e0 e1
  have ne : ∀ i, i ≠ 8 + 9 * e + 3 → s_lose a e i = a i := fun i hi => by unfold s_lose put1; rw [if_neg hi]
  have eq : s_lose a e (8 + 9 * e + 3) = (if a (8 + 9 * e + 3) ≤ 0 then 0 else a (8 + 9 * e + 3) - 1) := by unfold s_lose put1; rw [if_pos rfl]
  have b : 0 ≤ s_lose a e (8 + 9 * e + 3) ∧ s_lose a e (8 + 9 * e + 3) ≤ 5 := by rw [eq]; split <;> omega
  obtain ⟨f1, f2, f3, f4, f5, f6, f7⟩ := hI
  refine ⟨⟨⟨f1, f2, f3, f4, fun p q0 q1 => ?_, fun f q0 q1 => ?_, fun f i q0 q1 i0 i1 => ?_⟩, fun i hi => ?_, fun i => ?_⟩, ne 54 (by omega)⟩
  · rw [ne _ (by omega), ne _ (by omega)]; exact f5 p q0 q1
  · have gf := f6 f q0 q1
    rw [ne (8 + 9 * f + 0) (by omega), ne (8 + 9 * f + 1) (by omega), ne (8 + 9 * f + 2) (by omega)]
    by_cases c : f = e
    · subst c; exact ⟨gf.1, gf.2.1, gf.2.2.1, gf.2.2.2.1, gf.2.2.2.2.1, b.1, b.2⟩
    · rw [ne (8 + 9 * f + 3) (by omega)]; exact gf
  · rw [ne _ (by omega)]; exact f7 f i q0 q1 i0 i1
  · rw [ne i (by omega)]; exact h0 i hi
  · by_cases c : i = 8 + 9 * e + 3
    · subst c; omega
    · rw [ne i c]; exact hv i
theorem FA.dr1 {nP : Int} {E : Nat} {a : Int → Int} (hF : FA nP E a) (hE : 0 < E) (v : Int32) (h54 : a 54 < 1900) : FA nP E (s_dr1 E v a) ∧ s_dr1 E v a 54 = a 54 + 1 := by
  have p := s_pick_le v
  have m0 := Int.emod_nonneg (s_pick v) (show (E : Int) ≠ 0 by omega)
  have m1 := Int.emod_lt_of_pos (s_pick v) (show (0 : Int) < E by omega)
  unfold s_dr1
  by_cases c : s_sold a (s_pick v % E)
  · rw [if_pos c]
    exact ⟨⟨hF.1.week, s_week_0 hF.1 hF.2.1, s_week_v32 hF.1 hF.2.2 (by omega)⟩, s_week_54 E a⟩
  · rw [if_neg c]
    obtain ⟨g, g54⟩ := hF.lose m0 m1
    exact ⟨⟨g.1.week, s_week_0 g.1 g.2.1, s_week_v32 g.1 g.2.2 (by rw [g54]; omega)⟩, by rw [s_week_54, g54]⟩
section MODEL
variable {h : Hp} {m : Nat} {R : MR} {S : MSc} {nP nE : Int} {E : Nat}
theorem m_drift_L (hR : v32R R) (hE : S 4 = E) (hE0 : 0 < E) {n : Nat} (hn : n ≤ 30) (x3 : Int32) : ∀ (d k f : Nat) (v : Int32) (a : Int → Int), k + d = n → d < f → FA nP E a → 0 ≤ a 54 → a 54 + d < 1800 → fX4_drift_L41 m (iI n) x3 f (mput h m (setA R a) S) v (iI k) = some (mput h m (setA R (s_drift E d v a)) S) := by
  intro d
  induction d with
  | zero =>
    intro k f v a h1 h2 hF h3 h4
    cases f with
    | zero => omega
    | succ f =>
      obtain rfl : k = n := by omega
      rw [fX4_drift_L41, if_pos (by rw [iI_le] <;> omega)]
      rfl
  | succ d ih =>
    intro k f v a h1 h2 hF h3 h4
    have e5 : (E : Int) ≤ 5 := hF.1.2.2.2.1
    cases f with
    | zero => omega
    | succ f =>
      have p := s_pick_le (s_seed v)
      have m0 := Int.emod_nonneg (s_pick (s_seed v)) (show (E : Int) ≠ 0 by omega)
      have m1 := Int.emod_lt_of_pos (s_pick (s_seed v)) (show (0 : Int) < E by omega)
      have hp : (((v * (1103515245 : Int32)) + (iI 12345)) >>> ((iI 16) &&& 31)) &&& (iI 32767) = iI (s_pick (s_seed v)) := iI_of _
      have hRa := v32_setA hR hF.2.2
      obtain ⟨gl, gl54⟩ := hF.lose m0 m1
      obtain ⟨gd, gd54⟩ := hF.dr1 hE0 (s_seed v) (by omega)
      have ks := m_isSold (h := h) (m := m) (S := S) hRa (e := s_pick (s_seed v) % E) m0 (by omega)
      have kl := m_losesLetter (h := h) (m := m) (S := S) hRa (e := s_pick (s_seed v) % E) m0 (by omega)
      rw [setA_1] at ks kl
      rw [up2_setA] at kl
      rw [fX4_drift_L41, if_neg (by rw [iI_le] <;> omega), hp]
      simp (disch := omega) only [mi_echoes, hE, Option.bind_some, Option.bind_none, ↓reduceIte, true_and, and_true, not_true_eq_false, not_false_eq_true, iI_rem, ks, kl, iI_b0]
      have key : (if ¬ s_sold a (s_pick (s_seed v) % E) then some (mput h m (setA R (s_lose a (s_pick (s_seed v) % E))) S) else some (mput h m (setA R a) S)) = some (mput h m (setA R (if s_sold a (s_pick (s_seed v) % E) then a else s_lose a (s_pick (s_seed v) % E))) S) := by
        by_cases c : s_sold a (s_pick (s_seed v) % E)
        · rw [if_neg (fun z => z c), if_pos c]
        · rw [if_pos c, if_neg c]
      refine (congrArg (fun x => Option.bind x _) key).trans ?_
      simp only [Option.bind_some, Option.bind_none, ↓reduceIte, true_and, and_true, not_true_eq_false, not_false_eq_true]
      have hg : FA nP E (if s_sold a (s_pick (s_seed v) % E) then a else s_lose a (s_pick (s_seed v) % E)) ∧ (if s_sold a (s_pick (s_seed v) % E) then a else s_lose a (s_pick (s_seed v) % E)) 54 = a 54 := by
        split
        · exact ⟨hF, rfl⟩
        · exact ⟨gl, gl54⟩
      have w := m_weekGoes (h := h) (m := m) (R := setA R (if s_sold a (s_pick (s_seed v) % E) then a else s_lose a (s_pick (s_seed v) % E))) (S := S) (nP := nP) (E := E) (v32_setA hR hg.1.2.2) (by rw [setA_1]; exact hg.1.1) hE (by rw [setA_1, hg.2]; omega) (by rw [setA_1, hg.2]; omega)
      rw [setA_1, setA_setA] at w
      rw [w, Option.bind_some, iI_s]
      exact ih (k + 1) f (s_seed v) (s_dr1 E (s_seed v) a) (by omega) (by omega) gd (by omega) (by omega)
end MODEL
