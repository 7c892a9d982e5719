/-! ===== the start: the statics, the Strings, the breeds ===== -/
set_option maxRecDepth 100000
theorem ep_eqI {args : Array Value} {s : State} {t : Term} {z : Int32} (h : (Cond.eq t (.int z)).before args s = true) : t.eval args s none [] s = some (.int z) := by
  cases hv : t.eval args s none [] s with
  | none => simp [Cond.before, Cond.holds, Cond.value, hv] at h
  | some w =>
    have hz : (Term.int z).eval args s none [] s = some (.int z) := rfl
    simp only [Cond.before, Cond.holds, Cond.value, hv, hz] at h
    cases w <;> simp_all
def ep_tB : Term := .static "EchoPens" "BREEDS" "[LEchoPens$Plain;"
def ep_tN : Term := .static "EchoPens" "NAMES" "[Ljava/lang/String;"
theorem ep_mB : ∀ j : Fin 4, Cond.exactly (.elem ep_tB (.int (Int32.ofNat j))) (ep_bn j) ∈ ep_flat := by decide +kernel
theorem ep_mN : ∀ j : Fin 6, Cond.eq (.elem ep_tN (.int (Int32.ofNat j))) (ep_tm (1 + j)) ∈ ep_flat := by decide +kernel
def ep_mO : List Cond := [Cond.arrayOf ep_tB (.object "EchoPens$Plain"), Cond.eq (.length ep_tB) (.int (Int32.ofNat 4)), Cond.arrayOf ep_tN (.object "java/lang/String"), Cond.eq (.length ep_tN) (.int (Int32.ofNat 6)), Cond.eq (.static "java/lang/String" "COMPACT_STRINGS" "Z") (.int 1), Cond.isRef (.static "jdk/internal/util/Preconditions" "SIOOBE_FORMATTER" "Ljava/util/function/BiFunction;"), Cond.isRef (.static "java/lang/Throwable" "UNASSIGNED_STACK" "[Ljava/lang/StackTraceElement;"), Cond.isRef (.static "java/lang/Throwable" "SUPPRESSED_SENTINEL" "Ljava/util/List;"), Cond.eq (.string "EchoPens" 176) (.string "EchoPens$Farm" 85), Cond.eq (.string "EchoPens$Reader" 96) (.string "EchoPens" 176)]
theorem ep_mOk : ∀ w ∈ ep_mO, w ∈ ep_flat := by decide +kernel
theorem ep_Z0 {args : Array Value} {s : State} (hts : ∀ w ∈ lw_tbl, w.before args s = true) (hgv : ∀ w ∈ ep_flat, w.before args s = true) : ∃ ad : Nat → Nat, ∀ (D : va_G) (A : Nat → ClassId), ep_Z (D, A, s.heap.size, ad) s s.heap := by
  have hA : ∀ a : Nat, a < s.heap.size → ¬ (fun q : Nat => s.heap.size ≤ q) a := fun a ha => Nat.not_le.mpr ha
  have ho : ∀ w ∈ ep_mO, w.before args s = true := fun w hw => hgv w (ep_mOk w hw)
  have hall : ∀ w ∈ lw_all, w.before args s = true := fun w h => hts w (List.mem_filter.mp h).1
  obtain ⟨adK, adV, hS, hev⟩ := ep_S0 (A := fun q : Nat => s.heap.size ≤ q) hgv hA
  have hbr : ∀ j : Nat, ∃ a : Nat, j < 4 → (Term.elem ep_tB (.int (Int32.ofNat j))).eval args s none [] s = some (.ref a) := by
    intro j
    by_cases hj : j < 4
    · obtain ⟨a, c, cell, k, h1, -⟩ := Cond.exactly_spec (args := args) (first := s) (o := none) (s := s) (idx := []) (hgv _ (ep_mB ⟨j, hj⟩))
      exact ⟨a, fun _ => h1⟩
    · exact ⟨0, fun h => absurd h hj⟩
  obtain ⟨tB, hB, hTB⟩ := va_Tof (N := 4) (f := fun j => .ref (hbr j).choose) (A := fun q : Nat => s.heap.size ≤ q) (by decide) (ho (Cond.arrayOf ep_tB (.object "EchoPens$Plain")) (by simp [ep_mO])) (ep_eqI (ho (Cond.eq (.length ep_tB) (.int (Int32.ofNat 4))) (by simp [ep_mO]))) (fun j hj => (hbr j).choose_spec hj) hA
  obtain ⟨tN, hN, hTN⟩ := va_Tof (N := 6) (f := fun j => .ref (adK (1 + j))) (A := fun q : Nat => s.heap.size ≤ q) (by decide) (ho (Cond.arrayOf ep_tN (.object "java/lang/String")) (by simp [ep_mO])) (ep_eqI (ho (Cond.eq (.length ep_tN) (.int (Int32.ofNat 6))) (by simp [ep_mO])))
    (fun j hj => Cond.eq_refs (hgv _ (ep_mN ⟨j, hj⟩)) (hev (1 + j) (by omega)) rfl) hA
  refine ⟨fun k => if k = 0 then tB else if k = 1 then tN else if k < 10 then (hbr (k - 2)).choose else if k < 20 then adK (k - 10) else adV (k - 20), fun D A => ?_⟩
  have e1 : ∀ i : Nat, i < 7 → (if 10 + i = 0 then tB else if 10 + i = 1 then tN else if 10 + i < 10 then (hbr (10 + i - 2)).choose else if 10 + i < 20 then adK (10 + i - 10) else adV (10 + i - 20)) = adK i := fun i hi => by
    rw [if_neg (by omega), if_neg (by omega), if_neg (by omega), if_pos (by omega), Nat.add_sub_cancel_left]
  have e2 : ∀ i : Nat, i < 7 → (if 20 + i = 0 then tB else if 20 + i = 1 then tN else if 20 + i < 10 then (hbr (20 + i - 2)).choose else if 20 + i < 20 then adK (20 + i - 10) else adV (20 + i - 20)) = adV i := fun i hi => by
    rw [if_neg (by omega), if_neg (by omega), if_neg (by omega), if_neg (by omega), Nat.add_sub_cancel_left]
  have e3 : ∀ j : Nat, j < 4 → (if 2 + j = 0 then tB else if 2 + j = 1 then tN else if 2 + j < 10 then (hbr (2 + j - 2)).choose else if 2 + j < 20 then adK (2 + j - 10) else adV (2 + j - 20)) = (hbr j).choose := fun j hj => by
    rw [if_neg (by omega), if_neg (by omega), if_pos (by omega), Nat.add_sub_cancel_left]
  have e4 : ∀ j : Nat, j < 6 → (if 11 + j = 0 then tB else if 11 + j = 1 then tN else if 11 + j < 10 then (hbr (11 + j - 2)).choose else if 11 + j < 20 then adK (11 + j - 10) else adV (11 + j - 20)) = adK (1 + j) := fun j hj => by
    rw [if_neg (by omega), if_neg (by omega), if_neg (by omega), if_pos (by omega), show 11 + j - 10 = 1 + j by omega]
  refine ⟨⟨?_, ?_, ?_, ?_, ?_, ?_, ?_, ?_⟩, ⟨⟨?_, ?_⟩, ?_, ?_, ?_⟩, ?_, ?_, ?_⟩
  · exact va_Zof (hts _ q584) (hall _ q85) hB hA
  · exact va_Zof (hts _ q356) (hall _ q85) hN hA
  · exact va_Zof (hts _ q370) (hall _ q96) (ep_eqI (ho _ (by simp [ep_mO]))) hA
  · exact va_Zqof (hts _ q386) (hall _ q98) (ho _ (by simp [ep_mO])) hA
  · exact va_Zqof (hts _ q246) (hall _ q92) (ho _ (by simp [ep_mO])) hA
  · exact va_Zqof (hts _ q248) (hall _ q92) (ho _ (by simp [ep_mO])) hA
  · exact ep_Ls.of (hts _ q246) hA
  · exact ep_Ls.of (hts _ q248) hA
  · intro i hi
    show va_O "java/lang/String" (if 10 + i = 0 then tB else if 10 + i = 1 then tN else if 10 + i < 10 then (hbr (10 + i - 2)).choose else if 10 + i < 20 then adK (10 + i - 10) else adV (10 + i - 20)) _ s s.heap ∧ va_OF "java/lang/String" "coder" "B" (.int 0) (if 10 + i = 0 then tB else if 10 + i = 1 then tN else if 10 + i < 10 then (hbr (10 + i - 2)).choose else if 10 + i < 20 then adK (10 + i - 10) else adV (10 + i - 20)) _ s s.heap ∧ va_OF "java/lang/String" "value" "[B" (.ref (if 20 + i = 0 then tB else if 20 + i = 1 then tN else if 20 + i < 10 then (hbr (20 + i - 2)).choose else if 20 + i < 20 then adK (20 + i - 10) else adV (20 + i - 20))) (if 10 + i = 0 then tB else if 10 + i = 1 then tN else if 10 + i < 10 then (hbr (10 + i - 2)).choose else if 10 + i < 20 then adK (10 + i - 10) else adV (10 + i - 20)) _ s s.heap ∧ va_T .byte (if 20 + i = 0 then tB else if 20 + i = 1 then tN else if 20 + i < 10 then (hbr (20 + i - 2)).choose else if 20 + i < 20 then adK (20 + i - 10) else adV (20 + i - 20)) _ _ _ s s.heap
    rw [e1 i hi, e2 i hi]
    exact hS.1 i hi
  · intro i j hi hj h
    have h' : (if 10 + i = 0 then tB else if 10 + i = 1 then tN else if 10 + i < 10 then (hbr (10 + i - 2)).choose else if 10 + i < 20 then adK (10 + i - 10) else adV (10 + i - 20)) = (if 10 + j = 0 then tB else if 10 + j = 1 then tN else if 10 + j < 10 then (hbr (10 + j - 2)).choose else if 10 + j < 20 then adK (10 + j - 10) else adV (10 + j - 20)) := h
    rw [e1 i hi, e1 j hj] at h'
    exact hS.2 i j hi hj h'
  · obtain ⟨cell, h1, h2, h3, h4, h5, h6, h7⟩ := hTN
    refine ⟨cell, h1, h2, h3, h4, h5, fun j hj => ?_, h7⟩
    show _ = some (Value.ref (if 11 + j = 0 then tB else if 11 + j = 1 then tN else if 11 + j < 10 then (hbr (11 + j - 2)).choose else if 11 + j < 20 then adK (11 + j - 10) else adV (11 + j - 20)))
    rw [e4 j hj]
    exact h6 j hj
  · obtain ⟨cell, h1, h2, h3, h4, h5, h6, h7⟩ := hTB
    refine ⟨cell, h1, h2, h3, h4, h5, fun j hj => ?_, h7⟩
    show _ = some (Value.ref (if 2 + j = 0 then tB else if 2 + j = 1 then tN else if 2 + j < 10 then (hbr (2 + j - 2)).choose else if 2 + j < 20 then adK (2 + j - 10) else adV (2 + j - 20)))
    rw [e3 j hj]
    exact h6 j hj
  · intro k hk
    show va_O (ep_bn k) (if 2 + k = 0 then tB else if 2 + k = 1 then tN else if 2 + k < 10 then (hbr (2 + k - 2)).choose else if 2 + k < 20 then adK (2 + k - 10) else adV (2 + k - 20)) _ s s.heap
    rw [e3 k hk]
    exact va_Oof (hgv _ (ep_mB ⟨k, hk⟩)) ((hbr k).choose_spec hk) hA
  · exact vk_R.of (hts _ q640) (hev 0 (by decide))
  · exact vk_R.of (hts _ q700) (by
      have h1 := ho (Cond.eq (.string "EchoPens" 176) (.string "EchoPens$Farm" 85)) (by simp [ep_mO])
      have h2 : (Term.string "EchoPens" 176).eval args s none [] s = some (.ref (adK 0)) := hev 0 (by decide)
      cases hv : (Term.string "EchoPens$Farm" 85).eval args s none [] s with
      | none => simp [Cond.before, Cond.holds, Cond.value, h2, hv] at h1
      | some w =>
        cases w with
        | ref z =>
          have := Cond.eq_refs h1 hv rfl
          rw [h2] at this
          exact this.symm
        | _ => simp [Cond.before, Cond.holds, Cond.value, h2, hv] at h1)
  · exact vk_R.of (hts _ q440) (Cond.eq_refs (ho (Cond.eq (.string "EchoPens$Reader" 96) (.string "EchoPens" 176)) (by simp [ep_mO])) (hev 0 (by decide)) rfl)
/-- the walk and the start, joined: what is left is plain -/
theorem ep_whole {p : Program} {e : Env} {s : State} {m : MethodId} {below : List Frame} {meth : Method} {c : Code} (l : Launch) {b L : Nat} {xs : Nat → Int32} (C0 : lw_At p s m meth c b L xs) (k : ∀ (G : EG), G.2.2.1 = s.heap.size → ep_K G ep_cl s → ep_Z G s s.heap → ep_R G ep_cl (s.heap.size, fun _ => none) s.heap → W p l e room_1 s m #[Value.ref b] below meth c s.heap [] 0 0 (lw_Z below #[Value.ref b] s) (entryFrame m ([Value.ref b] : List Value).toArray 4)) :
    W p l e room_1 s m #[Value.ref b] below meth c s.heap [] 0 0 (lw_Z below #[Value.ref b] s) (entryFrame m ([Value.ref b] : List Value).toArray 4) := by
  obtain ⟨hx, hb, hr, hml, hown, htt, hX, hbl, hlocks, hgv⟩ := C0
  have hg : ∀ w ∈ ep_flat, w.before #[Value.ref b] s = true := flat_of_before _ hgv
  obtain ⟨D, A, hK⟩ := ep_K0 htt hg
  obtain ⟨ad, hZ⟩ := ep_Z0 htt hg
  exact k (D, A, s.heap.size, ad) rfl (hK _ _) (hZ D A) ⟨rfl, Nat.le_refl _, fun a o h => by cases h⟩
