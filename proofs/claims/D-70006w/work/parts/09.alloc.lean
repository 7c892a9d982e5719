/-! ===== rows that make arrays of references, arrays of arrays, and store references ===== -/
set_option maxRecDepth 100000
/-- a reference to an object of class ci into an array of references -/
def aP (t ci : Nat) (h : Hp) (a : Nat) (i : Int32) (x : Nat) : Option Hp := match h.2 a with
  | some (.inr (.inl (u, n, f))) => if u = t ∧ ¬ i < 0 ∧ i.toNatClampNeg < n ∧ ep_cls h x = some ci then some (ep_set h a (.inr (.inl (t, n, va_up f i.toNatClampNeg (some x))))) else none
  | _ => none
theorem aP_s {t ci : Nat} {h h' : Hp} {a : Nat} {i : Int32} {x : Nat} (e : aP t ci h a i x = some h') : ∃ (n : Nat) (f : Nat → Option Nat), h.2 a = some (.inr (.inl (t, n, f))) ∧ vp_in i n ∧ ep_cls h x = some ci ∧ h' = ep_set h a (.inr (.inl (t, n, va_up f i.toNatClampNeg (some x)))) := by
  unfold aP at e
  split at e
  · rename_i u n f hy
    split at e
    · rename_i hc
      obtain ⟨hc, h1, h2, h3⟩ := hc
      subst hc
      cases e
      exact ⟨n, f, hy, fun q => q.elim h1 (fun z => absurd h2 (Nat.not_lt.mpr z)), h3, rfl⟩
    · cases e
  · cases e
/-- tag of an array of whole numbers -/
def ep_tag (h : Hp) (a : Nat) : Option Nat := match h.2 a with
  | some (.inl q) => some q.1
  | _ => none
theorem ep_tag_s {h : Hp} {a t : Nat} (e : ep_tag h a = some t) : ∃ (n : Nat) (f : Nat → Int32), h.2 a = some (.inl (t, n, f)) := by
  unfold ep_tag at e
  split at e
  · rename_i q hy
    cases e
    exact ⟨q.2.1, q.2.2, hy⟩
  · cases e
/-- an array into an array of arrays -/
def aPA (t ti : Nat) (h : Hp) (a : Nat) (i : Int32) (x : Nat) : Option Hp := match h.2 a with
  | some (.inr (.inl (u, n, f))) => if u = t ∧ ¬ i < 0 ∧ i.toNatClampNeg < n ∧ ep_tag h x = some ti then some (ep_set h a (.inr (.inl (t, n, va_up f i.toNatClampNeg (some x))))) else none
  | _ => none
theorem aPA_s {t ti : Nat} {h h' : Hp} {a : Nat} {i : Int32} {x : Nat} (e : aPA t ti h a i x = some h') : ∃ (n : Nat) (f : Nat → Option Nat), h.2 a = some (.inr (.inl (t, n, f))) ∧ vp_in i n ∧ ep_tag h x = some ti ∧ h' = ep_set h a (.inr (.inl (t, n, va_up f i.toNatClampNeg (some x)))) := by
  unfold aPA at e
  split at e
  · rename_i u n f hy
    split at e
    · rename_i hc
      obtain ⟨hc, h1, h2, h3⟩ := hc
      subst hc
      cases e
      exact ⟨n, f, hy, fun q => q.elim h1 (fun z => absurd h2 (Nat.not_lt.mpr z)), h3, rfl⟩
    · cases e
  · cases e
/-- an array of n arrays of k numbers, its first i places laid -/
def mulH (t ti n k : Nat) (h : Hp) : Nat → Hp
  | 0 => ep_push h (.inr (.inl (t, n, fun _ => none)))
  | i + 1 => ep_set (ep_push (mulH t ti n k h i) (.inl (ti, k, fun _ => 0))) h.1 (.inr (.inl (t, n, fun j => if j < i + 1 then some (h.1 + 1 + j) else none)))
theorem mulH_size (t ti n k : Nat) (h : Hp) : ∀ i, (mulH t ti n k h i).1 = h.1 + 1 + i
  | 0 => rfl
  | i + 1 => by show (mulH t ti n k h i).1 + 1 = _; rw [mulH_size t ti n k h i]; omega
theorem mulH_outer (t ti n k : Nat) (h : Hp) : ∀ i, (mulH t ti n k h i).2 h.1 = some (.inr (.inl (t, n, fun j => if j < i then some (h.1 + 1 + j) else none)))
  | 0 => by simp [mulH, ep_push, va_up]
  | i + 1 => by simp [mulH, ep_set, va_up]
theorem ep_aoS {t : FieldType} {args : Array Value} {s : State} (h : (Cond.arrayOver (.array t)).before args s = true) : ∃ comp c k, s.vm.findClass (FieldType.array t).toString = some comp ∧ s.vm.classes[c]? = some k ∧ k.kind = .array comp (.array t) ∧ s.vm.findClass ("[" ++ (FieldType.array t).toString) = some c := by
  unfold Cond.before Cond.holds at h
  simp only [Cond.value, beq_iff_eq] at h
  cases hc : s.vm.findClass (FieldType.array t).toString with
  | none => simp [hc] at h
  | some comp =>
    simp only [hc, Option.bind_some, Option.bind_eq_some_iff, Option.map_eq_some_iff] at h
    obtain ⟨c, hi, k, hk, hb⟩ := h
    obtain ⟨hlt, hp, -⟩ := Array.findIdx?_eq_some_iff_getElem.mp hi
    have hkk : s.vm.classes[c] = k := (Array.getElem?_eq_some_iff.mp hk).2
    rw [hkk] at hp
    cases hkind : k.kind with
    | array component ty =>
      rw [hkind] at hb hp
      simp at hb hp
      exact ⟨comp, c, k, rfl, hk, by rw [hkind, hp, hb.1], hb.2⟩
    | _ => rw [hkind] at hb; simp at hb
section EPR4
variable {p : Program} {l : Launch} {e : Env} {R : Room} {s : State} {m : MethodId} {args : Array Value} {below : List Frame} {meth : Method} {c : Code} {H : Heap} {locs : List Loc} {cells slots : Nat} {Q : State → Prop}
variable {cc : ByteArray} {pc : Nat} {ls : Array Slot} {rest : List Value} {G : EG} {cl : List vw_C} {a : Nat} {h h' : Hp}
theorem ep_W.pushed {o : Ob} (hw : ep_W G cl h s H locs) {H1 : Heap} (e1 : va_at G.1 cl (h.1, ep_E G o) H1) (z1 : H1.size = H.size + 1) (o1 : ∀ q : Nat, q < H.size → H1[q]? = H[q]?) : ep_W G cl (ep_push h o) s H1 locs :=
  ⟨hw.1.push e1 z1 o1, ⟨Nat.le_trans hw.2.1 (by omega), fun x h1 h2 => (o1 x (Nat.lt_of_lt_of_le h1 hw.2.1)).trans (hw.2.2.1 x h1 h2), hw.2.2.2⟩⟩
/-- anewarray -/
theorem ep_newq (t : Nat) (hexec : p.tables.exec = Jvm.exec) (hb : c.code = cc) {own C : String} {index : Nat} (hts : ∀ w ∈ lw_all, w.before args s = true) (hown : s.vm.findClass own = some m.cls) (hclink : Cond.classLink own index C ∈ lw_all) (hover : va_AO C s) (ht : t < 12) (hty : ep_ty t = .object C) (hK : ep_K G cl s) (hw : ep_W G cl h s H locs)
    {n : Int32} {N' : Nat} (hn : ¬ n < 0) (hN : n.toNatClampNeg = N') (hbytes : N' * 4 ≤ 536870912) (hcells : cells + 1 ≤ R.cells) (hslots : slots + N' ≤ R.slots) (hdg : decode cc pc = .ok (.anewarray index, 3))
    (kk : ∀ (H1 : Heap), ep_W G cl (ep_push h (.inr (.inl (t, N', fun _ => none)))) s H1 locs → W p l e R s m args below meth c H1 locs (cells + 1) (slots + N') Q (F0 m (pc + 3) ls (.ref h.1 :: rest))) : W p l e R s m args below meth c H locs cells slots Q (F0 m pc ls (.int n :: rest)) := by
  subst hN
  refine W.anew hexec hb hown (hts _ hclink) (va_AO.use hover) rfl hdg rfl hn hbytes hcells hslots fun cA kA comp f1 f2 f3 f4 => ?_
  have h2 := (hK.2.1 t ht).2
  rw [hty] at h2
  obtain ⟨-, -, -, -, -, h2⟩ := h2
  have hcA : cA = G.2.1 t := Option.some.inj (f1.symm.trans h2)
  subst hcA
  have hsz := hw.1.1
  have k1 := kk (H.push ({ cls := G.2.1 t, slots := Array.replicate n.toNatClampNeg .null, vm := .none } : Cell)) (hw.pushed (by
    show (H.push _)[h.1]? = some (vp_cell (G.2.1 t) (n.toNatClampNeg, .inr (.inr (.inr (.inr (fun _ => none))))))
    rw [← hsz, Array.getElem?_push_size, vp_cell_q]
    exact congrArg some (arrV_new ..)) (Array.size_push ..) (fun q hq => by rw [Array.getElem?_push, if_neg (Nat.ne_of_lt hq)]))
  rw [← hsz] at k1
  exact k1
/-- aastore of an object -/
theorem ep_aast (t : Nat) {ci : Nat} {q : vw_C} (hexec : p.tables.exec = Jvm.exec) (hb : c.code = cc) (ht : t < 9) (hty : ep_ty t = .object q.1) (hcl : cl[ci]? = some q) (hK : ep_K G cl s) (hw : ep_W G cl h s H locs) {i : Int32} {x : Nat} (hf : aP t ci h a i x = some h') (hdg : decode cc pc = .ok (.aastore, 1))
    (kk : ∀ (H1 : Heap) (locs1 : List Loc), ep_W G cl h' s H1 locs1 → W p l e R s m args below meth c H1 locs1 cells slots Q (F0 m (pc + 1) ls rest)) : W p l e R s m args below meth c H locs cells slots Q (F0 m pc ls (.ref x :: .int i :: .ref a :: rest)) := by
  obtain ⟨n, f, h1, hin, h3, rfl⟩ := aP_s hf
  obtain ⟨hc, hA⟩ := hw.1.2.2 a _ h1
  have hcell : H[a]? = some (vp_cell (G.2.1 t) (n, .inr (.inr (.inr (.inr f))))) := hc
  have h2 := (hK.2.1 t (by omega)).2
  rw [hty] at h2
  obtain ⟨kA, comp, k1, k2, k3, k4⟩ := h2
  obtain ⟨kE, hkE, -⟩ := Vm.findClass_spec k3
  obtain ⟨fs, hfs⟩ := ep_cls_s h3
  obtain ⟨r, r1, cell, q1, q2, q3, -⟩ := (hw.1.2.2 x _ hfs).1
  have hr : r = q := Option.some.inj (r1.symm.trans hcl)
  subst hr
  have hcc : s.vm.findClass r.1 = some (G.1.1 ci) := (hK.1 ci _ hcl).2.1
  have hcomp : comp = G.1.1 ci := Option.some.inj (k3.symm.trans hcc)
  have hlt : i.toNatClampNeg < n := Nat.not_le.mp fun q => hin (Or.inr q)
  have h0 : ¬ i < 0 := fun q => hin (Or.inl q)
  refine W.aast hexec hb hcell (fun q h => by cases h) (fun h => by cases h) k1 k2 rfl hkE ⟨h0, by show _ < (arrV _ _ _).slots.size; rw [arrV_size]; exact hlt⟩ q1 (fun z hz => by rw [q3] at hz; cases hz) (kv := kE) (by rw [q2, ← hcomp]; exact hkE) (by rw [q2, hcomp]; exact va_asg _ _) rfl rfl hdg fun H1 e z oq => ?_
  refine kk H1 _ (hw.put (hA (by show t < 9; exact ht)) ?_ z oq)
  show H1[a]? = some (vp_cell _ _)
  rw [e]
  rw [vp_cell_q, vp_cell_q, arrV_store]
  congr 2
  funext q
  by_cases hq : q = i.toNatClampNeg
  · subst hq
    simp [updV, va_up, va_rf]
  · simp [updV, va_up, hq]
/-- aastore of an array of numbers -/
theorem ep_aastA (t ti : Nat) {ty : FieldType} (hexec : p.tables.exec = Jvm.exec) (hb : c.code = cc) (ht : t < 9) (hti : ti < 12) (hty : ep_ty t = .array ty) (hty2 : ep_ty ti = ty) (hRA : ∀ U cA, va_RA U cA ty = (U.vm.findClass ("[" ++ ty.toString) = some cA)) (hts : (FieldType.array ty).toString = "[" ++ ty.toString) (hao : (Cond.arrayOver (.array ty)).before #[] s = true) (hK : ep_K G cl s) (hw : ep_W G cl h s H locs) {i : Int32} {x : Nat} (hf : aPA t ti h a i x = some h') (hdg : decode cc pc = .ok (.aastore, 1))
    (kk : ∀ (H1 : Heap) (locs1 : List Loc), ep_W G cl h' s H1 locs1 → W p l e R s m args below meth c H1 locs1 cells slots Q (F0 m (pc + 1) ls rest)) : W p l e R s m args below meth c H locs cells slots Q (F0 m pc ls (.ref x :: .int i :: .ref a :: rest)) := by
  obtain ⟨n, f, h1, hin, h3, rfl⟩ := aPA_s hf
  obtain ⟨hc, hA⟩ := hw.1.2.2 a _ h1
  have hcell : H[a]? = some (vp_cell (G.2.1 t) (n, .inr (.inr (.inr (.inr f))))) := hc
  obtain ⟨comp, cA, kA, k3, k1, k2, k4⟩ := ep_aoS hao
  have h2 := (hK.2.1 t (by omega)).2
  rw [hty] at h2
  have h2 : s.vm.findClass ("[" ++ (FieldType.array ty).toString) = some (G.2.1 t) := h2
  have hcA : cA = G.2.1 t := Option.some.inj (k4.symm.trans h2)
  subst hcA
  obtain ⟨kE, hkE, -⟩ := Vm.findClass_spec k3
  obtain ⟨n2, f2, hx⟩ := ep_tag_s h3
  have hcx : H[x]? = some (vp_cell (G.2.1 ti) (n2, .inl f2)) := (hw.1.2.2 x _ hx).1
  have h5 := (hK.2.1 ti hti).2
  rw [hty2, hRA, ← hts] at h5
  have hcomp : comp = G.2.1 ti := Option.some.inj (k3.symm.trans h5)
  have hlt : i.toNatClampNeg < n := Nat.not_le.mp fun q => hin (Or.inr q)
  have h0 : ¬ i < 0 := fun q => hin (Or.inl q)
  refine W.aast hexec hb hcell (fun q h => by cases h) (fun h => by cases h) k1 k2 rfl hkE ⟨h0, by show _ < (arrV _ _ _).slots.size; rw [arrV_size]; exact hlt⟩ hcx (fun z hz => by cases hz) (kv := kE) (by show s.vm.classes[G.2.1 ti]? = _; rw [← hcomp]; exact hkE) (by show s.vm.assignable (G.2.1 ti) comp = true; rw [hcomp]; exact va_asg _ _) rfl rfl hdg fun H1 e z oq => ?_
  refine kk H1 _ (hw.put (hA (by show t < 9; exact ht)) ?_ z oq)
  show H1[a]? = some (vp_cell _ _)
  rw [e]
  rw [vp_cell_q, vp_cell_q, arrV_store]
  congr 2
  funext q
  by_cases hq : q = i.toNatClampNeg
  · subst hq
    simp [updV, va_up, va_rf]
  · simp [updV, va_up, hq]
end EPR4
