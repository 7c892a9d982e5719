/-! ===== the start: what holds at the law's entry ===== -/
set_option maxRecDepth 100000
theorem ep_supF {args : Array Value} {s : State} {a b : String} (h : (Cond.superclass a b).before args s = true) : ∃ c p k kp, s.vm.findClass a = some c ∧ s.vm.findClass b = some p ∧ s.vm.classes[c]? = some k ∧ s.vm.classes[p]? = some kp ∧ k.kind = .ordinary ∧ kp.kind = .ordinary := by
  cases hc : s.vm.findClass a with
  | none => simp [Cond.before, Cond.holds, Cond.value, hc] at h
  | some c =>
    obtain ⟨p, k, kp, h1, h2, h3, -, h5, h6, -⟩ := Cond.superclass_spec hc h
    exact ⟨c, p, k, kp, rfl, h1, h2, h3, h5, h6⟩
theorem ep_k1 {args : Array Value} {s : State} (hts : ∀ w ∈ lw_all, w.before args s = true) : ∃ D : va_G, ∀ (c : Nat) (q : vw_C), ep_cl[c]? = some q → u_Kn s q.1 q.2.1 q.2.2 (D.1 c) (D.2 c) := by
  have h : ∀ c : Nat, ∃ (cC : ClassId) (iS : Nat → Nat), ∀ q : vw_C, ep_cl[c]? = some q → u_Kn s q.1 q.2.1 q.2.2 cC iS := by
    intro c
    match c with
    | 0 => obtain ⟨a, b, h⟩ := u_known (T := TX0) (N := 25) hts in_X0 (hts _ q568); exact ⟨a, b, fun q e => by cases e; exact h⟩
    | 1 => obtain ⟨a, b, h⟩ := u_known (T := TX1) (N := 11) hts in_X1 (hts _ q138); exact ⟨a, b, fun q e => by cases e; exact h⟩
    | 2 => obtain ⟨a, b, h⟩ := u_known (T := TX2) (N := 5) hts in_X2 (hts _ q888); exact ⟨a, b, fun q e => by cases e; exact h⟩
    | 3 => obtain ⟨a, b, h⟩ := u_known (T := TX3) (N := 2) hts in_X3 (hts _ q914); exact ⟨a, b, fun q e => by cases e; exact h⟩
    | 4 => obtain ⟨a, b, h⟩ := u_known (T := TX4) (N := 32) hts in_X4 (hts _ q1126); exact ⟨a, b, fun q e => by cases e; exact h⟩
    | 5 => obtain ⟨a, b, h⟩ := u_known (T := TX5) (N := 11) hts in_X5 (hts _ q130); exact ⟨a, b, fun q e => by cases e; exact h⟩
    | 6 => obtain ⟨a, b, h⟩ := u_known (T := TX6) (N := 8) hts in_X6 (hts _ q220); exact ⟨a, b, fun q e => by cases e; exact h⟩
    | 7 => obtain ⟨a, b, h⟩ := u_known (T := TX7) (N := 4) hts in_X7 (hts _ q502); exact ⟨a, b, fun q e => by cases e; exact h⟩
    | 8 =>
      obtain ⟨c, p, k, kp, h1, h2, h3, h4, h5, h6⟩ := ep_supF (hts _ q598)
      exact ⟨p, fun _ => 0, fun q e => by cases e; exact ⟨fun k hk => absurd hk (Nat.not_lt_zero _), h2, kp, h4, h6⟩⟩
    | 9 =>
      obtain ⟨c, p, k, kp, h1, h2, h3, h4, h5, h6⟩ := ep_supF (hts _ q593)
      exact ⟨c, fun _ => 0, fun q e => by cases e; exact ⟨fun k hk => absurd hk (Nat.not_lt_zero _), h1, k, h3, h5⟩⟩
    | 10 =>
      obtain ⟨c, p, k, kp, h1, h2, h3, h4, h5, h6⟩ := ep_supF (hts _ q598)
      exact ⟨c, fun _ => 0, fun q e => by cases e; exact ⟨fun k hk => absurd hk (Nat.not_lt_zero _), h1, k, h3, h5⟩⟩
    | 11 =>
      obtain ⟨c, p, k, kp, h1, h2, h3, h4, h5, h6⟩ := ep_supF (hts _ q603)
      exact ⟨c, fun _ => 0, fun q e => by cases e; exact ⟨fun k hk => absurd hk (Nat.not_lt_zero _), h1, k, h3, h5⟩⟩
    | 12 => obtain ⟨a, b, h⟩ := u_known (T := TJ3) (N := 2) hts in_J3 (hts _ q1031); exact ⟨a, b, fun q e => by cases e; exact h⟩
    | n + 13 => exact ⟨0, fun _ => 0, fun q e => by cases e⟩
  exact ⟨(fun c => (h c).choose, fun c => (h c).choose_spec.choose), fun c q e => (h c).choose_spec.choose_spec q e⟩
theorem ep_arrOf {s : State} {c comp : ClassId} {k : Class} {ty : FieldType} (h1 : s.vm.classes[c]? = some k) (h2 : k.kind = .array comp ty) : ArrOfT s c ty := fun n z => ⟨fun j hj => (by cases hj), k, h1, comp, h2⟩
theorem ep_k2 {args : Array Value} {s : State} (hts : ∀ w ∈ lw_tbl, w.before args s = true) : ∃ A : Nat → ClassId, ∀ t : Nat, t < 12 → ArrOfT s (A t) (ep_ty t) ∧ va_RA s (A t) (ep_ty t) := by
  have hall : ∀ w ∈ lw_all, w.before args s = true := fun w h => hts w (List.mem_filter.mp h).1
  have ob : ∀ C, Cond.arrayOver (.object C) ∈ lw_tbl → ∃ c, ArrOfT s c (.object C) ∧ va_RA s c (.object C) := by
    intro C hC
    obtain ⟨comp, c, k, h1, -, h3, h4, h5⟩ := Cond.arrayOver_spec (hts _ hC)
    exact ⟨c, ep_arrOf h3 h4, k, comp, h3, h4, h1, h5⟩
  have h : ∀ t : Nat, ∃ c : ClassId, t < 12 → ArrOfT s c (ep_ty t) ∧ va_RA s c (ep_ty t) := by
    intro t
    match t with
    | 0 => obtain ⟨c, k, comp, h1, h2, h3⟩ := Cond.arrayClass_spec (hall _ q199); exact ⟨c, fun _ => ⟨ep_arrOf h2 h3, h1⟩⟩
    | 1 => obtain ⟨c, k, comp, h1, h2, h3⟩ := Cond.arrayClass_spec (hall _ q198); exact ⟨c, fun _ => ⟨ep_arrOf h2 h3, h1⟩⟩
    | 2 => obtain ⟨c, k, comp, h1, h2, h3⟩ := Cond.arrayClass_spec (hall _ q1039); exact ⟨c, fun _ => ⟨ep_arrOf h2 h3, h1⟩⟩
    | 3 => obtain ⟨c, k, comp, h1, h2, h3⟩ := Cond.arrayClass_spec (hall _ q1236); exact ⟨c, fun _ => ⟨ep_arrOf h2 h3, h1⟩⟩
    | 4 => obtain ⟨comp, c, k, -, h2, h3, h4⟩ := ep_aoS (hts _ q144); exact ⟨c, fun _ => ⟨ep_arrOf h2 h3, h4⟩⟩
    | 5 => obtain ⟨comp, c, k, -, h2, h3, h4⟩ := ep_aoS (hts _ q885); exact ⟨c, fun _ => ⟨ep_arrOf h2 h3, h4⟩⟩
    | 6 => obtain ⟨c, h⟩ := ob _ q201; exact ⟨c, fun _ => h⟩
    | 7 => obtain ⟨c, h⟩ := ob _ q887; exact ⟨c, fun _ => h⟩
    | 8 => obtain ⟨c, h⟩ := ob _ q913; exact ⟨c, fun _ => h⟩
    | 9 => obtain ⟨c, k, comp, h1, h2, h3⟩ := Cond.arrayClass_spec (hall _ q198); exact ⟨c, fun _ => ⟨ep_arrOf h2 h3, h1⟩⟩
    | 10 => obtain ⟨c, h⟩ := ob _ q1646; exact ⟨c, fun _ => h⟩
    | 11 => obtain ⟨c, k, comp, h1, h2, h3⟩ := Cond.arrayClass_spec (hall _ q198); exact ⟨c, fun _ => ⟨ep_arrOf h2 h3, h1⟩⟩
    | n + 12 => exact ⟨0, fun h => absurd h (by omega)⟩
  exact ⟨fun t => (h t).choose, fun t ht => (h t).choose_spec ht⟩
def ep_flat : List Cond := flatC (Jvm.Cond.and given_1 narrow_1)
theorem ep_K0 {args : Array Value} {s : State} (hts : ∀ w ∈ lw_tbl, w.before args s = true) (hgv : ∀ w ∈ ep_flat, w.before args s = true) : ∃ (D : va_G) (A : Nat → ClassId), ∀ (n : Nat) (f : Nat → Nat), ep_K (D, A, n, f) ep_cl s := by
  obtain ⟨D, hD⟩ := ep_k1 (args := args) (s := s) (fun w h => hts w (List.mem_filter.mp h).1)
  obtain ⟨A, hA⟩ := ep_k2 hts
  refine ⟨D, A, fun n f => ⟨hD, hA, fun w hw => va_Nw.of (ep_nw_tab (List.mem_filter.mp hw).2) (hts w (List.mem_filter.mp hw).1), ⟨va_AO.of (hts _ q201), va_AO.of (hts _ q887), va_AO.of (hts _ q913)⟩, hts _ q144, hts _ q885, fun q hq => ?_⟩⟩
  have hm : ∀ q ∈ ep_nc, Cond.not (.castable q.1 q.2) ∈ ep_flat := by decide +kernel
  exact va_Nc.of (hgv _ (hm q hq))
/-- the String constants, in the order of ep_byt -/
def ep_tm (i : Nat) : Term := .string "EchoPens" (match i with | 0 => 176 | 1 => 400 | 2 => 402 | 3 => 404 | 4 => 406 | 5 => 408 | _ => 410)
def ep_strA (i : Nat) : List Cond := [Cond.exactly (ep_tm i) "java/lang/String", Cond.eq (.field (ep_tm i) "java/lang/String" "coder" "B") (.int 0), Cond.arrayOf (.field (ep_tm i) "java/lang/String" "value" "[B") .byte, Cond.eq (.length (.field (ep_tm i) "java/lang/String" "value" "[B")) (.int (Int32.ofNat (ep_len.getD i 0)))]
theorem ep_strOk : ∀ i : Fin 7, ∀ w ∈ ep_strA i, w ∈ ep_flat := by decide +kernel
theorem ep_strEl : ∀ i : Fin 7, ∀ j : Fin 5, j.val < ep_len.getD i 0 → Cond.eq (.elem (.field (ep_tm i) "java/lang/String" "value" "[B") (.int (Int32.ofNat j))) (.int ((ep_byt.getD i []).getD j 0)) ∈ ep_flat := by decide +kernel
theorem ep_strNe : ∀ i : Fin 7, ∀ j : Fin 7, i ≠ j → Cond.not (Cond.eq (ep_tm i) (ep_tm j)) ∈ ep_flat ∨ Cond.not (Cond.eq (ep_tm j) (ep_tm i)) ∈ ep_flat := by decide +kernel
theorem ep_lenLt : ∀ i : Fin 7, ep_len.getD i 0 < 6 := by decide
theorem ep_S0 {args : Array Value} {s : State} {A : Nat → Prop} (hgv : ∀ w ∈ ep_flat, w.before args s = true) (hA : ∀ a : Nat, a < s.heap.size → ¬ A a) : ∃ adK adV : Nat → Nat, vk_S 7 ep_len ep_byt adK adV A s s.heap ∧ ∀ i : Nat, i < 7 → (ep_tm i).eval args s none [] s = some (.ref (adK i)) := by
  have st : ∀ i : Nat, i < 7 → ∀ w ∈ ep_strA i, w.before args s = true := fun i hi w hw => hgv w (ep_strOk ⟨i, hi⟩ w hw)
  refine vk_Sof (fun i hi => Nat.lt_trans (ep_lenLt ⟨i, hi⟩) (by decide)) (fun i hi => st i hi _ (by simp [ep_strA])) (fun i hi => st i hi _ (by simp [ep_strA])) (fun i hi => st i hi _ (by simp [ep_strA])) (fun i hi => st i hi _ (by simp [ep_strA])) (fun i hi j hj => ?_) (fun i j hi hj hne => ?_) hA
  · exact hgv _ (ep_strEl ⟨i, hi⟩ ⟨j, Nat.lt_of_lt_of_le hj (Nat.le_of_lt_succ (ep_lenLt ⟨i, hi⟩))⟩ hj)
  · rcases ep_strNe ⟨i, hi⟩ ⟨j, hj⟩ (fun h => hne (congrArg Fin.val h)) with h | h
    · exact Or.inl (hgv _ h)
    · exact Or.inr (hgv _ h)
