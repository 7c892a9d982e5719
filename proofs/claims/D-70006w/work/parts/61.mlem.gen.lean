/-! the model's fields and arrays, one by one (printed by mlem.py) -/
theorem m_pI (h : Hp) (m : Nat) (R : MR) (S : MSc) (j : Nat) (hj : j < 32) {w : Value} {S' : MSc} (e : mF m S' = (mF m S).set j w) : pF (mput h m R S) m 4 j w = some (mput h m R S') := by
  unfold pF
  rw [mput_0]
  show (if 4 = 4 ∧ j < (mF m S).length then _ else none) = _
  rw [if_pos ⟨rfl, hj⟩, ← e]
  congr 1
  unfold ep_set mput
  congr 1
  funext q
  unfold va_up
  by_cases hq : q = m
  · subst hq
    rw [if_pos rfl, if_pos ⟨by omega, by omega⟩, Nat.sub_self]
    rfl
  · rw [if_neg hq]
    show (if m ≤ q ∧ q < m + 14 then some (mCell m R S (q - m)) else h.2 q) = (if m ≤ q ∧ q < m + 14 then some (mCell m R S' (q - m)) else h.2 q)
    by_cases hin : m ≤ q ∧ q < m + 14
    · rw [if_pos hin, if_pos hin]
      obtain ⟨d, rfl⟩ : ∃ d, q = m + d := ⟨q - m, by omega⟩
      rw [Nat.add_sub_cancel_left]
      cases d with
      | zero => exact absurd rfl hq
      | succ d => rfl
    · rw [if_neg hin, if_neg hin]
theorem mr_st (h : Hp) (m : Nat) (R : MR) (S : MSc) : gR (mput h m R S) m 4 0 = some (m + 1) := m_gR h m R S 0 (x := m + 1) rfl
theorem ma_st (h : Hp) (m : Nat) (R : MR) (S : MSc) {i : Int} (h1 : 0 ≤ i) (h2 : i < 225) : aI 0 (mput h m R S) (m + 1) (iI i) = some (iI (R 0 i)) := m_aI h m R S 0 (by decide) h1 h2
theorem ms_st (h : Hp) (m : Nat) (R : MR) (S : MSc) {i v : Int} (h1 : 0 ≤ i) (h2 : i < 225) : aS 0 (mput h m R S) (m + 1) (iI i) (iI v) = some (mput h m (up2 R 0 i v) S) := m_aS h m R S 0 (by decide) h1 h2
theorem mr_at (h : Hp) (m : Nat) (R : MR) (S : MSc) : gR (mput h m R S) m 4 1 = some (m + 2) := m_gR h m R S 1 (x := m + 2) rfl
theorem ma_at (h : Hp) (m : Nat) (R : MR) (S : MSc) {i : Int} (h1 : 0 ≤ i) (h2 : i < 75) : aI 0 (mput h m R S) (m + 2) (iI i) = some (iI (R 1 i)) := m_aI h m R S 1 (by decide) h1 h2
theorem ms_at (h : Hp) (m : Nat) (R : MR) (S : MSc) {i v : Int} (h1 : 0 ≤ i) (h2 : i < 75) : aS 0 (mput h m R S) (m + 2) (iI i) (iI v) = some (mput h m (up2 R 1 i v) S) := m_aS h m R S 1 (by decide) h1 h2
theorem mr_isKept (h : Hp) (m : Nat) (R : MR) (S : MSc) : gR (mput h m R S) m 4 2 = some (m + 3) := m_gR h m R S 2 (x := m + 3) rfl
theorem ma_isKept (h : Hp) (m : Nat) (R : MR) (S : MSc) {i : Int} (h1 : 0 ≤ i) (h2 : i < 2) : aI 3 (mput h m R S) (m + 3) (iI i) = some (iI (R 2 i)) := m_aI h m R S 2 (by decide) h1 h2
theorem ms_isKept (h : Hp) (m : Nat) (R : MR) (S : MSc) {i v : Int} (h1 : 0 ≤ i) (h2 : i < 2) : aS 3 (mput h m R S) (m + 3) (iI i) (iI v) = some (mput h m (up2 R 2 i v) S) := m_aS h m R S 2 (by decide) h1 h2
theorem mr_terms (h : Hp) (m : Nat) (R : MR) (S : MSc) : gR (mput h m R S) m 4 6 = some (m + 4) := m_gR h m R S 6 (x := m + 4) rfl
theorem ma_terms (h : Hp) (m : Nat) (R : MR) (S : MSc) {i : Int} (h1 : 0 ≤ i) (h2 : i < 32) : aI 0 (mput h m R S) (m + 4) (iI i) = some (iI (R 3 i)) := m_aI h m R S 3 (by decide) h1 h2
theorem ms_terms (h : Hp) (m : Nat) (R : MR) (S : MSc) {i v : Int} (h1 : 0 ≤ i) (h2 : i < 32) : aS 0 (mput h m R S) (m + 4) (iI i) (iI v) = some (mput h m (up2 R 3 i v) S) := m_aS h m R S 3 (by decide) h1 h2
theorem mr_draft (h : Hp) (m : Nat) (R : MR) (S : MSc) : gR (mput h m R S) m 4 7 = some (m + 5) := m_gR h m R S 7 (x := m + 5) rfl
theorem ma_draft (h : Hp) (m : Nat) (R : MR) (S : MSc) {i : Int} (h1 : 0 ≤ i) (h2 : i < 75) : aI 0 (mput h m R S) (m + 5) (iI i) = some (iI (R 4 i)) := m_aI h m R S 4 (by decide) h1 h2
theorem ms_draft (h : Hp) (m : Nat) (R : MR) (S : MSc) {i v : Int} (h1 : 0 ≤ i) (h2 : i < 75) : aS 0 (mput h m R S) (m + 5) (iI i) (iI v) = some (mput h m (up2 R 4 i v) S) := m_aS h m R S 4 (by decide) h1 h2
theorem mr_dOrder (h : Hp) (m : Nat) (R : MR) (S : MSc) : gR (mput h m R S) m 4 11 = some (m + 6) := m_gR h m R S 11 (x := m + 6) rfl
theorem ma_dOrder (h : Hp) (m : Nat) (R : MR) (S : MSc) {i : Int} (h1 : 0 ≤ i) (h2 : i < 32) : aI 0 (mput h m R S) (m + 6) (iI i) = some (iI (R 5 i)) := m_aI h m R S 5 (by decide) h1 h2
theorem ms_dOrder (h : Hp) (m : Nat) (R : MR) (S : MSc) {i v : Int} (h1 : 0 ≤ i) (h2 : i < 32) : aS 0 (mput h m R S) (m + 6) (iI i) (iI v) = some (mput h m (up2 R 5 i v) S) := m_aS h m R S 5 (by decide) h1 h2
theorem mr_tape (h : Hp) (m : Nat) (R : MR) (S : MSc) : gR (mput h m R S) m 4 13 = some (m + 7) := m_gR h m R S 13 (x := m + 7) rfl
theorem ma_tape (h : Hp) (m : Nat) (R : MR) (S : MSc) {i : Int} (h1 : 0 ≤ i) (h2 : i < 160) : aI 0 (mput h m R S) (m + 7) (iI i) = some (iI (R 6 i)) := m_aI h m R S 6 (by decide) h1 h2
theorem ms_tape (h : Hp) (m : Nat) (R : MR) (S : MSc) {i v : Int} (h1 : 0 ≤ i) (h2 : i < 160) : aS 0 (mput h m R S) (m + 7) (iI i) (iI v) = some (mput h m (up2 R 6 i v) S) := m_aS h m R S 6 (by decide) h1 h2
theorem mr_meeting (h : Hp) (m : Nat) (R : MR) (S : MSc) : gR (mput h m R S) m 4 21 = some (m + 8) := m_gR h m R S 21 (x := m + 8) rfl
theorem ma_meeting (h : Hp) (m : Nat) (R : MR) (S : MSc) {i : Int} (h1 : 0 ≤ i) (h2 : i < 4) : aI 0 (mput h m R S) (m + 8) (iI i) = some (iI (R 7 i)) := m_aI h m R S 7 (by decide) h1 h2
theorem ms_meeting (h : Hp) (m : Nat) (R : MR) (S : MSc) {i v : Int} (h1 : 0 ≤ i) (h2 : i < 4) : aS 0 (mput h m R S) (m + 8) (iI i) (iI v) = some (mput h m (up2 R 7 i v) S) := m_aS h m R S 7 (by decide) h1 h2
theorem mr_ways (h : Hp) (m : Nat) (R : MR) (S : MSc) : gR (mput h m R S) m 4 26 = some (m + 9) := m_gR h m R S 26 (x := m + 9) rfl
theorem ma_ways (h : Hp) (m : Nat) (R : MR) (S : MSc) {i : Int} (h1 : 0 ≤ i) (h2 : i < 186) : aI 0 (mput h m R S) (m + 9) (iI i) = some (iI (R 8 i)) := m_aI h m R S 8 (by decide) h1 h2
theorem ms_ways (h : Hp) (m : Nat) (R : MR) (S : MSc) {i v : Int} (h1 : 0 ≤ i) (h2 : i < 186) : aS 0 (mput h m R S) (m + 9) (iI i) (iI v) = some (mput h m (up2 R 8 i v) S) := m_aS h m R S 8 (by decide) h1 h2
theorem mr_lanes (h : Hp) (m : Nat) (R : MR) (S : MSc) : gR (mput h m R S) m 4 27 = some (m + 10) := m_gR h m R S 27 (x := m + 10) rfl
theorem ma_lanes (h : Hp) (m : Nat) (R : MR) (S : MSc) {i : Int} (h1 : 0 ≤ i) (h2 : i < 4) : aI 0 (mput h m R S) (m + 10) (iI i) = some (iI (R 9 i)) := m_aI h m R S 9 (by decide) h1 h2
theorem ms_lanes (h : Hp) (m : Nat) (R : MR) (S : MSc) {i v : Int} (h1 : 0 ≤ i) (h2 : i < 4) : aS 0 (mput h m R S) (m + 10) (iI i) (iI v) = some (mput h m (up2 R 9 i v) S) := m_aS h m R S 9 (by decide) h1 h2
theorem mr_sizes (h : Hp) (m : Nat) (R : MR) (S : MSc) : gR (mput h m R S) m 4 28 = some (m + 11) := m_gR h m R S 28 (x := m + 11) rfl
theorem ma_sizes (h : Hp) (m : Nat) (R : MR) (S : MSc) {i : Int} (h1 : 0 ≤ i) (h2 : i < 4) : aI 0 (mput h m R S) (m + 11) (iI i) = some (iI (R 10 i)) := m_aI h m R S 10 (by decide) h1 h2
theorem ms_sizes (h : Hp) (m : Nat) (R : MR) (S : MSc) {i v : Int} (h1 : 0 ≤ i) (h2 : i < 4) : aS 0 (mput h m R S) (m + 11) (iI i) (iI v) = some (mput h m (up2 R 10 i v) S) := m_aS h m R S 10 (by decide) h1 h2
theorem mr_cells (h : Hp) (m : Nat) (R : MR) (S : MSc) : gR (mput h m R S) m 4 29 = some (m + 12) := m_gR h m R S 29 (x := m + 12) rfl
theorem ma_cells (h : Hp) (m : Nat) (R : MR) (S : MSc) {i : Int} (h1 : 0 ≤ i) (h2 : i < 160) : aI 0 (mput h m R S) (m + 12) (iI i) = some (iI (R 11 i)) := m_aI h m R S 11 (by decide) h1 h2
theorem ms_cells (h : Hp) (m : Nat) (R : MR) (S : MSc) {i v : Int} (h1 : 0 ≤ i) (h2 : i < 160) : aS 0 (mput h m R S) (m + 12) (iI i) (iI v) = some (mput h m (up2 R 11 i v) S) := m_aS h m R S 11 (by decide) h1 h2
theorem mr_had (h : Hp) (m : Nat) (R : MR) (S : MSc) : gR (mput h m R S) m 4 31 = some (m + 13) := m_gR h m R S 31 (x := m + 13) rfl
theorem ma_had (h : Hp) (m : Nat) (R : MR) (S : MSc) {i : Int} (h1 : 0 ≤ i) (h2 : i < 75) : aI 0 (mput h m R S) (m + 13) (iI i) = some (iI (R 12 i)) := m_aI h m R S 12 (by decide) h1 h2
theorem ms_had (h : Hp) (m : Nat) (R : MR) (S : MSc) {i v : Int} (h1 : 0 ≤ i) (h2 : i < 75) : aS 0 (mput h m R S) (m + 13) (iI i) (iI v) = some (mput h m (up2 R 12 i v) S) := m_aS h m R S 12 (by decide) h1 h2
theorem mi_pens (h : Hp) (m : Nat) (R : MR) (S : MSc) : gI (mput h m R S) m 4 3 = some (iI (S 3)) := m_gI h m R S 3 (x := S 3) rfl
theorem mp_pens (h : Hp) (m : Nat) (R : MR) (S : MSc) {v : Int} : pF (mput h m R S) m 4 3 (.int (iI v)) = some (mput h m R (upS S 3 v)) := m_pI h m R S 3 (by decide) rfl
theorem mi_echoes (h : Hp) (m : Nat) (R : MR) (S : MSc) : gI (mput h m R S) m 4 4 = some (iI (S 4)) := m_gI h m R S 4 (x := S 4) rfl
theorem mp_echoes (h : Hp) (m : Nat) (R : MR) (S : MSc) {v : Int} : pF (mput h m R S) m 4 4 (.int (iI v)) = some (mput h m R (upS S 4 v)) := m_pI h m R S 4 (by decide) rfl
theorem mi_orders (h : Hp) (m : Nat) (R : MR) (S : MSc) : gI (mput h m R S) m 4 5 = some (iI (S 5)) := m_gI h m R S 5 (x := S 5) rfl
theorem mp_orders (h : Hp) (m : Nat) (R : MR) (S : MSc) {v : Int} : pF (mput h m R S) m 4 5 (.int (iI v)) = some (mput h m R (upS S 5 v)) := m_pI h m R S 5 (by decide) rfl
theorem mi_dPens (h : Hp) (m : Nat) (R : MR) (S : MSc) : gI (mput h m R S) m 4 8 = some (iI (S 8)) := m_gI h m R S 8 (x := S 8) rfl
theorem mp_dPens (h : Hp) (m : Nat) (R : MR) (S : MSc) {v : Int} : pF (mput h m R S) m 4 8 (.int (iI v)) = some (mput h m R (upS S 8 v)) := m_pI h m R S 8 (by decide) rfl
theorem mi_dEchoes (h : Hp) (m : Nat) (R : MR) (S : MSc) : gI (mput h m R S) m 4 9 = some (iI (S 9)) := m_gI h m R S 9 (x := S 9) rfl
theorem mp_dEchoes (h : Hp) (m : Nat) (R : MR) (S : MSc) {v : Int} : pF (mput h m R S) m 4 9 (.int (iI v)) = some (mput h m R (upS S 9 v)) := m_pI h m R S 9 (by decide) rfl
theorem mi_dOrders (h : Hp) (m : Nat) (R : MR) (S : MSc) : gI (mput h m R S) m 4 10 = some (iI (S 10)) := m_gI h m R S 10 (x := S 10) rfl
theorem mp_dOrders (h : Hp) (m : Nat) (R : MR) (S : MSc) {v : Int} : pF (mput h m R S) m 4 10 (.int (iI v)) = some (mput h m R (upS S 10 v)) := m_pI h m R S 10 (by decide) rfl
theorem mi_highest (h : Hp) (m : Nat) (R : MR) (S : MSc) : gI (mput h m R S) m 4 12 = some (iI (S 12)) := m_gI h m R S 12 (x := S 12) rfl
theorem mp_highest (h : Hp) (m : Nat) (R : MR) (S : MSc) {v : Int} : pF (mput h m R S) m 4 12 (.int (iI v)) = some (mput h m R (upS S 12 v)) := m_pI h m R S 12 (by decide) rfl
theorem mi_taped (h : Hp) (m : Nat) (R : MR) (S : MSc) : gI (mput h m R S) m 4 14 = some (iI (S 14)) := m_gI h m R S 14 (x := S 14) rfl
theorem mp_taped (h : Hp) (m : Nat) (R : MR) (S : MSc) {v : Int} : pF (mput h m R S) m 4 14 (.int (iI v)) = some (mput h m R (upS S 14 v)) := m_pI h m R S 14 (by decide) rfl
theorem mi_pos (h : Hp) (m : Nat) (R : MR) (S : MSc) : gI (mput h m R S) m 4 15 = some (iI (S 15)) := m_gI h m R S 15 (x := S 15) rfl
theorem mp_pos (h : Hp) (m : Nat) (R : MR) (S : MSc) {v : Int} : pF (mput h m R S) m 4 15 (.int (iI v)) = some (mput h m R (upS S 15 v)) := m_pI h m R S 15 (by decide) rfl
theorem mi_from (h : Hp) (m : Nat) (R : MR) (S : MSc) : gI (mput h m R S) m 4 16 = some (iI (S 16)) := m_gI h m R S 16 (x := S 16) rfl
theorem mp_from (h : Hp) (m : Nat) (R : MR) (S : MSc) {v : Int} : pF (mput h m R S) m 4 16 (.int (iI v)) = some (mput h m R (upS S 16 v)) := m_pI h m R S 16 (by decide) rfl
theorem mi_sort (h : Hp) (m : Nat) (R : MR) (S : MSc) : gI (mput h m R S) m 4 17 = some (iI (S 17)) := m_gI h m R S 17 (x := S 17) rfl
theorem mp_sort (h : Hp) (m : Nat) (R : MR) (S : MSc) {v : Int} : pF (mput h m R S) m 4 17 (.int (iI v)) = some (mput h m R (upS S 17 v)) := m_pI h m R S 17 (by decide) rfl
theorem mi_value (h : Hp) (m : Nat) (R : MR) (S : MSc) : gI (mput h m R S) m 4 18 = some (iI (S 18)) := m_gI h m R S 18 (x := S 18) rfl
theorem mp_value (h : Hp) (m : Nat) (R : MR) (S : MSc) {v : Int} : pF (mput h m R S) m 4 18 (.int (iI v)) = some (mput h m R (upS S 18 v)) := m_pI h m R S 18 (by decide) rfl
theorem mi_fault (h : Hp) (m : Nat) (R : MR) (S : MSc) : gI (mput h m R S) m 4 19 = some (iI (S 19)) := m_gI h m R S 19 (x := S 19) rfl
theorem mp_fault (h : Hp) (m : Nat) (R : MR) (S : MSc) {v : Int} : pF (mput h m R S) m 4 19 (.int (iI v)) = some (mput h m R (upS S 19 v)) := m_pI h m R S 19 (by decide) rfl
theorem mi_wrongAt (h : Hp) (m : Nat) (R : MR) (S : MSc) : gI (mput h m R S) m 4 20 = some (iI (S 20)) := m_gI h m R S 20 (x := S 20) rfl
theorem mp_wrongAt (h : Hp) (m : Nat) (R : MR) (S : MSc) {v : Int} : pF (mput h m R S) m 4 20 (.int (iI v)) = some (mput h m R (upS S 20 v)) := m_pI h m R S 20 (by decide) rfl
theorem mi_saleNumber (h : Hp) (m : Nat) (R : MR) (S : MSc) : gI (mput h m R S) m 4 22 = some (iI (S 22)) := m_gI h m R S 22 (x := S 22) rfl
theorem mp_saleNumber (h : Hp) (m : Nat) (R : MR) (S : MSc) {v : Int} : pF (mput h m R S) m 4 22 (.int (iI v)) = some (mput h m R (upS S 22 v)) := m_pI h m R S 22 (by decide) rfl
theorem mi_torn (h : Hp) (m : Nat) (R : MR) (S : MSc) : gI (mput h m R S) m 4 30 = some (iI (S 30)) := m_gI h m R S 30 (x := S 30) rfl
theorem mp_torn (h : Hp) (m : Nat) (R : MR) (S : MSc) {v : Int} : pF (mput h m R S) m 4 30 (.int (iI v)) = some (mput h m R (upS S 30 v)) := m_pI h m R S 30 (by decide) rfl
theorem mi_keptSum (h : Hp) (m : Nat) (R : MR) (S : MSc) : gL (mput h m R S) m 4 23 = some (lI (S 23)) := by simp [gL, m_fld, mF]
theorem mp_keptSum (h : Hp) (m : Nat) (R : MR) (S : MSc) {v : Int} : pF (mput h m R S) m 4 23 (.long (lI v)) = some (mput h m R (upS S 23 v)) := m_pI h m R S 23 (by decide) rfl
theorem mi_keptLetters (h : Hp) (m : Nat) (R : MR) (S : MSc) : gL (mput h m R S) m 4 24 = some (lI (S 24)) := by simp [gL, m_fld, mF]
theorem mp_keptLetters (h : Hp) (m : Nat) (R : MR) (S : MSc) {v : Int} : pF (mput h m R S) m 4 24 (.long (lI v)) = some (mput h m R (upS S 24 v)) := m_pI h m R S 24 (by decide) rfl
theorem mi_allWays (h : Hp) (m : Nat) (R : MR) (S : MSc) : gL (mput h m R S) m 4 25 = some (lI (S 25)) := by simp [gL, m_fld, mF]
theorem mp_allWays (h : Hp) (m : Nat) (R : MR) (S : MSc) {v : Int} : pF (mput h m R S) m 4 25 (.long (lI v)) = some (mput h m R (upS S 25 v)) := m_pI h m R S 25 (by decide) rfl
