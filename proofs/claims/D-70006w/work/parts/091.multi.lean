/-! ===== an array of arrays of numbers is made ===== -/
set_option maxRecDepth 100000
theorem ep_wpNew {E : CtlPost} {e : Env} {d : Bool} {acts : List Action} {s : State} {c comp : ClassId} {k : Class} {ty : FieldType} {n : Nat} {v : Value} (hk : s.vm.classes[c]? = some k) (hkind : k.kind = .array comp ty) (hl : ¬ n > e.platform.arrayLengthLimit) (hh : ¬ n * componentBytes ty > e.platform.maxHeapBytes) (hfit : fits ty v = true) (hdef : v.isDefault = true) {Q : Addr → Pre}
    (h1 : s.heap.size < e.platform.maxCells) (h2 : s.slotsUsed + n ≤ e.platform.maxSlots) (hq : Q s.heap.size d acts (s.pushCell { cls := c, slots := Array.replicate n v, vm := .none })) : wp (Jvm.newArray c n v) Q E e d acts s := by
  have hfs : ∀ i x, (Array.replicate n v)[i]? = some x → s.fitsSlot c .none i x = true := by
    intro i x hx
    rw [Array.getElem?_replicate] at hx
    split at hx
    · cases hx; simp [State.fitsSlot, State.slotType?, hk, hkind, hfit]
    · cases hx
  have hda : allocActs (Array.replicate n v) s.heap.size acts = acts := by
    unfold allocActs
    rw [if_pos (by rw [Array.all_replicate]; split <;> simp [hdef])]
  simp only [Jvm.newArray, Jvm.arrayFits, wp_bind', W.ask, W.ite, hl, if_false, wp_pure', W.theClass, hk, hkind, hh, W.alloc, W.stop, Option.some.injEq, exists_eq_left', Array.size_replicate, hda]
  rw [if_neg (by omega)]
  exact ⟨h1, h2, hfs, hq⟩
theorem ep_instr {tb : Tables} [Ours tb] {e : Env} {below : List Frame} {s : State} {f : JFrame} {c : Code} {i : Instr} {len : Nat} {Q : State → Prop} (h : At s f.method c below) (hd : decode c.code f.pc = .ok (i, len))
    (hw : wpRun (tb.exec i) (fun _ s₁ _ => ∀ acts, ∃ t, Steps tb e below (afterInstr e len (.ok () s₁ acts)).1 t ∧ Q t) (fun x s₁ _ => ∀ acts, ∃ t, Steps tb e below (afterInstr e len (.ctl x s₁ acts)).1 t ∧ Q t) e (s.setTop f)) :
    ∃ t, Steps tb e below (s.setTop f) t ∧ Q t := by
  have hw := (wpRun_iff_run _ _ _ _ _).mp hw
  have key : ∀ t, Steps tb e below (stepThread tb e (s.setTop f)).1 t → Steps tb e below (s.setTop f) t := fun t ht =>
    Steps.head ⟨h.running, by rw [State.curStatus?_setTop]; exact h.runnable, by rw [State.alone_setTop]; exact h.alone⟩ (h.within f) ht
  rw [stepThread_java (State.frames_setTop' f h.top) h.plain h.code hd] at key
  cases hr : (tb.exec i).run e (s.setTop f) with
  | ok a s₁ acts =>
    rw [hr] at hw key
    obtain ⟨t, h1, h2⟩ := hw acts
    exact ⟨t, key t h1, h2⟩
  | ctl x s₁ acts =>
    rw [hr] at hw key
    have hw2 : ∃ t, Steps tb e below (afterInstr e len (.ctl x s₁ acts)).1 t ∧ Q t := by
      cases x <;> first | exact hw acts | exact hw.elim
    obtain ⟨t, h1, h2⟩ := hw2
    exact ⟨t, key t h1, h2⟩
section EPM
variable {p : Program} {l : Launch} {e : Env} {R : Room} {s : State} {m : MethodId} {args : Array Value} {below : List Frame} {meth : Method} {c : Code} {H : Heap} {locs : List Loc} {cells slots : Nat} {Q : State → Prop}
variable {cc : ByteArray} {pc : Nat} {ls : Array Slot} {rest : List Value} {G : EG} {cl : List vw_C} {a : Nat} {h h' : Hp}
set_option maxHeartbeats 1000000 in
theorem ep_multi (t ti : Nat) {ty : FieldType} (hexec : p.tables.exec = Jvm.exec) (hb : c.code = cc) {own : String} {index : Nat} (hts : ∀ w ∈ lw_all, w.before args s = true) (hown : s.vm.findClass own = some m.cls) (hclink : Cond.classLink own index ("[" ++ (FieldType.array ty).toString) ∈ lw_all) (harr : Cond.arrayClass ty ∈ lw_all) (ht : t < 9) (hti : ti < 9) (hty : ep_ty t = .array ty) (hty2 : ep_ty ti = ty) (hRA : ∀ U cA, va_RA U cA ty = (U.vm.findClass ("[" ++ ty.toString) = some cA)) (hstr : (FieldType.array ty).toString = "[" ++ ty.toString) (hdv : defaultValue ty = .int 0) (hfi : fits ty (.int 0) = true) (hao : (Cond.arrayOver (.array ty)).before #[] s = true) (hK : ep_K G cl s) (hw : ep_W G cl h s H locs)
    {n k : Int32} {N K : Nat} (hn : ¬ n < 0) (hk : ¬ k < 0) (hN : n.toNatClampNeg = N) (hKn : k.toNatClampNeg = K) (hb1 : N * 4 ≤ 536870912) (hb2 : K * componentBytes ty ≤ 536870912) (hb3 : K ≤ 536870912) (hcells : cells + (1 + N) ≤ R.cells) (hslots : slots + (N + N * K) ≤ R.slots) (hdg : decode cc pc = .ok (.multianewarray index 2, 4))
    (kk : ∀ (H1 : Heap) (locs1 : List Loc), ep_W G cl (mulH t ti N K h N) s H1 locs1 → W p l e R s m args below meth c H1 locs1 (cells + (1 + N)) (slots + (N + N * K)) Q (F0 m (pc + 4) ls (.ref h.1 :: rest))) : W p l e R s m args below meth c H locs cells slots Q (F0 m pc ls (.int k :: .int n :: rest)) := by
  intro T hT X
  have hpl : e.platform.magicAccessors = ({} : Platform).magicAccessors := by rw [X.admits.platform]
  obtain ⟨comp, cA, kA, hcomp, hkA, hkindA, hnameA⟩ := ep_aoS hao
  have h2 := (hK.2.1 t (by omega)).2
  rw [hty] at h2
  have h2 : s.vm.findClass ("[" ++ (FieldType.array ty).toString) = some (G.2.1 t) := h2
  have hcA : cA = G.2.1 t := Option.some.inj (hnameA.symm.trans h2)
  subst hcA
  have h5 := (hK.2.1 ti (by omega)).2
  rw [hty2, hRA, ← hstr] at h5
  have hcm : comp = G.2.1 ti := Option.some.inj (hcomp.symm.trans h5)
  subst hcm
  obtain ⟨comp', kC, cc2, hcomp', hkC, hkindC⟩ := Cond.arrayClass_spec (hts _ harr)
  have e9 : comp' = G.2.1 ti := Option.some.inj (hcomp'.symm.trans hcomp)
  subst e9
  obtain ⟨c0, hfc0, hcl⟩ := Cond.classLink_spec hown (hts _ hclink) e.platform hpl
  cases hnameA.symm.trans hfc0
  obtain ⟨hg₁, hwarm₁, hready₁⟩ := State.classEntry (e := e) X.warmed hcl
  generalize T.vm.noted m.cls index (.cls (G.2.1 t)) = vm₁ at hg₁ hwarm₁ hready₁
  have hal : s.vm.Alike vm₁ := hwarm₁.alike
  obtain ⟨kA₁, hkA₁, heA⟩ := hal.2.2 _ _ hkA
  obtain ⟨kC₁, hkC₁, heC⟩ := hal.2.2 _ _ hkC
  have hkindA₁ : kA₁.kind = .array (G.2.1 ti) (.array ty) := by rw [heA]; exact hkindA
  have hkindC₁ : kC₁.kind = .array cc2 ty := by rw [heC]; exact hkindC
  have X₁ := X.noted hwarm₁
  obtain ⟨hr1, hr2⟩ := X.roomAbove hcells hslots
  have hl1 : ¬ N > e.platform.arrayLengthLimit := by rw [Launch.admits_arrayLengthLimit X.admits]; omega
  have hh1 : ¬ N * componentBytes (.array ty) > e.platform.maxHeapBytes := by
    rw [Launch.admits_maxHeapBytes X.admits]; show ¬ N * 4 > 536870912; omega
  have hl2 : ¬ K > e.platform.arrayLengthLimit := by rw [Launch.admits_arrayLengthLimit X.admits]; omega
  have hh2 : ¬ K * componentBytes ty > e.platform.maxHeapBytes := by rw [Launch.admits_maxHeapBytes X.admits]; omega
  have hwa : ep_W G cl h s (T.setVm vm₁).heap locs := by rw [show (T.setVm vm₁).heap = H from hT]; exact hw
  have hsz : (T.setVm vm₁).heap.size = h.1 := hwa.1.1
  generalize hg : F0 m pc ls (.int k :: .int n :: rest) = g
  have hgm : g.method = m := by rw [← hg]
  have hgp : g.pc = pc := by rw [← hg]
  have hgs : g.stack = .int k :: .int n :: rest := by rw [← hg]
  have hdg' : decode c.code g.pc = .ok (.multianewarray index 2, 4) := by rw [hb, hgp]; exact hdg
  have hend : ∀ (T' : State) (locs' : List Loc), Stand p l e R s m args below meth c T' locs' (cells + (1 + N)) (slots + (N + N * K)) → ep_W G cl (mulH t ti N K h N) s T'.heap locs' → ∃ t', Steps p.tables e below (T'.setTop { g with pc := g.pc + 4, stack := .ref h.1 :: rest }) t' ∧ Q t' := by
    intro T' locs' X' hw'
    have := kk T'.heap locs' hw' T' rfl X'
    rw [show ({ g with pc := g.pc + 4, stack := .ref h.1 :: rest } : JFrame) = F0 m (pc + 4) ls (.ref h.1 :: rest) by rw [← hg]]
    exact this
  subst hgm
  clear hg
  refine ep_instr X.here hdg' ?_
  rw [hexec]
  show wpRun (multianewarray.sem index 2) _ _ e (T.setTop g)
  unfold wpRun
  simp only [multianewarray.sem, wp_bind', W.resolveClassAt_links (State.method?_setTop g X.here.top) hg₁]
  rw [W.popN, if_neg (by decide)]
  refine ⟨g, State.topJava?_setTop' (s := T.setVm vm₁) g X.here.top, [.int n, .int k], rest, rfl, hgs, ?_⟩
  simp only [List.mapM_cons, List.mapM_nil, wp_bind', wp_pure']
  have eS : ((T.setTop g).setVm vm₁).setTop { g with stack := rest } = (T.setVm vm₁).setTop { g with stack := rest } := by
    show ((T.setVm vm₁).setTop g).setTop _ = _
    rw [State.setTop_setTop]
  rw [eS]
  generalize hU : T.setVm vm₁ = U at X₁ hwa hsz ⊢
  have hUv : U.vm = vm₁ := by rw [← hU]; rfl
  have hUs : U.slotsUsed = T.slotsUsed := by rw [← hU]; rfl
  have hUh : U.heap.size = T.heap.size := by rw [← hU]; rfl
  rw [multianewarray.make]
  simp only [wp_bind', W.ite, hn, if_false, wp_pure', W.theClass, State.vm_setTop, hUv, hkA₁, hkindA₁, Option.some.injEq, exists_eq_left']
  generalize hf : ({ g with stack := rest } : JFrame) = f
  have hfp : f.pc = g.pc := by rw [← hf]
  subst hN
  subst hKn
  refine ep_wpNew (k := kA₁) (comp := G.2.1 ti) (ty := .array ty) (by rw [State.vm_setTop, hUv]; exact hkA₁) hkindA₁ hl1 hh1 rfl rfl (by rw [State.heap_setTop, hUh]; omega) (by show (U.setTop f).slotsUsed + _ ≤ _; rw [show (U.setTop f).slotsUsed = U.slotsUsed by simp [State.setTop, State.modifyTopJava, State.setFrames], hUs]; omega) ?_
  have hfind : ([k].find? (· < 0)) = none := by simp [hk]
  simp only [hfind]
  rw [ite_self, wp_bind', Std.Legacy.Range.forIn_eq_forIn_range']
  have hsize : ([:n.toNatClampNeg] : Std.Legacy.Range).size = n.toNatClampNeg := by simp [Std.Legacy.Range.size]
  rw [hsize, State.pushCell_setTop, State.heap_setTop]
  show wp (forIn (List.range' 0 n.toNatClampNeg 1) PUnit.unit _) _ _ e true [] _
  refine wp_forIn_inv (fun rs s' => ∃ (i : Nat) (T' : State) (locs' : List Loc), i ≤ n.toNatClampNeg ∧ rs = List.range' i (n.toNatClampNeg - i) ∧ s' = T'.setTop f ∧ Stand p l e R s g.method args below meth c T' locs' (cells + (1 + i)) (slots + (n.toNatClampNeg + i * k.toNatClampNeg)) ∧ ep_W G cl (mulH t ti n.toNatClampNeg k.toNatClampNeg h i) s T'.heap locs' ∧ T'.vm = vm₁) _ _ ?_ ?_ ?_
  · refine ⟨0, U.pushCell { cls := G.2.1 t, slots := Array.replicate n.toNatClampNeg .null, vm := .none }, locs, Nat.zero_le _, rfl, rfl, ?_, ?_, by simp [hUv]⟩
    · have z := X₁.pushed { cls := G.2.1 t, slots := Array.replicate n.toNatClampNeg .null, vm := .none }
      rw [Array.size_replicate] at z
      simpa using z
    · refine hwa.pushed ?_ (by simp [State.pushCell]) (fun q hq => State.heap_pushCell_of_lt _ _ hq)
      show _ = some (vp_cell (G.2.1 t) (n.toNatClampNeg, .inr (.inr (.inr (.inr (fun _ => none))))))
      rw [← hsz, State.heap_pushCell_size, vp_cell_q]
      exact congrArg some (arrV_new ..)
  · rintro x rs s' d' acts' Q' ⟨i, T', locs', hi, hl, rfl, X', hw', hv'⟩ hnext
    have hlt : i < n.toNatClampNeg := by
      rcases Nat.lt_or_ge i n.toNatClampNeg with h | h
      · exact h
      · rw [show n.toNatClampNeg - i = 0 from by omega] at hl; simp at hl
    obtain ⟨rfl, hrest⟩ : x = i ∧ rs = List.range' (i + 1) (n.toNatClampNeg - (i + 1)) := by
      rw [show n.toNatClampNeg - i = (n.toNatClampNeg - (i + 1)) + 1 from by omega, List.range'_succ] at hl
      exact ⟨(List.cons.inj hl).1, (List.cons.inj hl).2⟩
    have hmul : x * k.toNatClampNeg + k.toNatClampNeg ≤ n.toNatClampNeg * k.toNatClampNeg := by
      have := Nat.mul_le_mul_right k.toNatClampNeg (show x + 1 ≤ n.toNatClampNeg from hlt)
      rw [Nat.succ_mul] at this; exact this
    obtain ⟨g1, g2⟩ := X'.roomAbove (show cells + (1 + x) + 1 ≤ R.cells by omega) (show slots + (n.toNatClampNeg + x * k.toNatClampNeg) + k.toNatClampNeg ≤ R.slots by omega)
    have hsz' : T'.heap.size = h.1 + 1 + x := by rw [hw'.1.1, mulH_size]
    simp only [wp_bind']
    rw [multianewarray.make]
    simp only [wp_bind', W.ite, hk, if_false, wp_pure', W.theClass, State.vm_setTop, hv', hkC₁, hkindC₁, Option.some.injEq, exists_eq_left', hdv]
    refine ep_wpNew (k := kC₁) (comp := cc2) (ty := ty) (by rw [State.vm_setTop, hv']; exact hkC₁) hkindC₁ hl2 hh2 hfi rfl (by rw [State.heap_setTop]; omega) (by show (T'.setTop f).slotsUsed + _ ≤ _; rw [show (T'.setTop f).slotsUsed = T'.slotsUsed by simp [State.setTop, State.modifyTopJava, State.setFrames]]; omega) ?_
    rw [State.pushCell_setTop, State.heap_setTop, hsz']
    have X2 := X'.pushed { cls := G.2.1 ti, slots := Array.replicate k.toNatClampNeg (.int 0), vm := .none }
    rw [Array.size_replicate] at X2
    have hw2 := hw'.pushed (H1 := (T'.pushCell { cls := G.2.1 ti, slots := Array.replicate k.toNatClampNeg (.int 0), vm := .none }).heap) (o := .inl (ti, k.toNatClampNeg, fun _ => 0)) (by
      show _ = some (vp_cell (G.2.1 ti) (k.toNatClampNeg, .inl (fun _ => 0)))
      rw [← hw'.1.1, State.heap_pushCell_size, vp_cell_i]
      exact congrArg some (arrV_new ..)) (by simp [State.pushCell]) (fun q hq => State.heap_pushCell_of_lt _ _ hq)
    have hv2 : (T'.pushCell { cls := G.2.1 ti, slots := Array.replicate k.toNatClampNeg (.int 0), vm := .none }).vm = vm₁ := by simp [hv']
    generalize T'.pushCell { cls := G.2.1 ti, slots := Array.replicate k.toNatClampNeg (.int 0), vm := .none } = V at X2 hw2 hv2 ⊢
    have ho : (ep_push (mulH t ti n.toNatClampNeg k.toNatClampNeg h x) (.inl (ti, k.toNatClampNeg, fun _ => 0))).2 h.1 = some (.inr (.inl (t, n.toNatClampNeg, fun j => if j < x then some (h.1 + 1 + j) else none))) := by
      have hne : h.1 ≠ (mulH t ti n.toNatClampNeg k.toNatClampNeg h x).1 := by rw [mulH_size]; omega
      simp only [ep_push, va_up, if_neg hne, mulH_outer]
    obtain ⟨hc, hA⟩ := hw2.1.2.2 _ _ ho
    have hcell : V.heap[h.1]? = some (vp_cell (G.2.1 t) (n.toNatClampNeg, .inr (.inr (.inr (.inr (fun j => if j < x then some (h.1 + 1 + j) else none)))))) := hc
    have hsU : U.heap.size = h.1 := hsz
    simp only [wp_bind', W.writeLoc, wp_pure', hsU]
    refine ⟨_, (by rw [State.heap_setTop]; exact hcell), (fun z => by cases z), (by rw [vp_cell_q, arrV_size]; exact hlt), ?_, hnext _ _ _ ⟨x + 1, V.setCell h.1 ((vp_cell (G.2.1 t) (n.toNatClampNeg, .inr (.inr (.inr (.inr (fun j => if j < x then some (h.1 + 1 + j) else none)))))).setSlot x (.ref (h.1 + 1 + x))), locs' ++ [⟨h.1, x⟩], hlt, hrest, by rw [State.setCell_setTop], ?_, ?_, by simp [hv2]⟩⟩
    · simp [State.fitsSlot, State.slotType?, State.vm_setTop, hv2, vp_cell_q, arrV, hkA₁, hkindA₁]
      try rfl
    · have z := X2.stored hcell x (.ref (h.1 + 1 + x))
      rw [show cells + (1 + (x + 1)) = cells + (1 + x) + 1 by omega, show slots + (n.toNatClampNeg + (x + 1) * k.toNatClampNeg) = slots + (n.toNatClampNeg + x * k.toNatClampNeg) + k.toNatClampNeg by rw [Nat.succ_mul]; omega]
      exact z
    · have hlt2 : h.1 < V.heap.size := by rw [hw2.1.1]; show h.1 < (mulH t ti n.toNatClampNeg k.toNatClampNeg h x).1 + 1; rw [mulH_size]; omega
      refine hw2.put (hA (by show t < 9; exact ht)) ?_ (by simp [State.setCell]) (fun q hq => State.heap_setCell_other (Ne.symm hq))
      show _ = some (vp_cell (G.2.1 t) (n.toNatClampNeg, .inr (.inr (.inr (.inr (fun j => if j < x + 1 then some (h.1 + 1 + j) else none))))))
      rw [State.heap_setCell_self hcell]
      rw [vp_cell_q, vp_cell_q, arrV_store]
      congr 2
      funext q
      by_cases hq : q = x
      · subst hq
        simp [updV, va_rf]
      · have e9 : (q < x + 1) = (q < x) := by apply propext; omega
        simp [updV, hq, e9]
  · rintro s' d' acts' ⟨i, T', locs', hi, hl, rfl, X', hw', hv'⟩
    have hiN : i = n.toNatClampNeg := by
      rcases Nat.lt_or_ge i n.toNatClampNeg with h | h
      · rw [show n.toNatClampNeg - i = (n.toNatClampNeg - (i + 1)) + 1 from by omega, List.range'_succ] at hl; cases hl
      · omega
    subst hiN
    simp only [wp_pure']
    have hsU : U.heap.size = h.1 := hsz
    simp only [wp_bind', W.mark, W.pushRef, State.topJava?_setTop' _ X'.here.top, Option.some.injEq, exists_eq_left', State.setTop_setTop, hsU]
    intro acts
    rw [afterInstr_ok]
    have z := hend T' locs' X' hw'
    rw [show ({ g with pc := g.pc + 4, stack := .ref h.1 :: rest } : JFrame) = { ({ f with stack := .ref h.1 :: f.stack } : JFrame) with pc := f.pc + 4 } by rw [← hf]] at z
    exact z
end EPM
