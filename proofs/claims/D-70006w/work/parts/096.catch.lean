/-! ===== handlers: an exception caught in the method itself; calls of methods with handlers; rows of casts ===== -/
set_option maxRecDepth 100000
theorem ep_go {Q : Handler → Pre} {E : CtlPost} {e : Env} {d : Bool} {acts : List Action} {s : State} {f : JFrame} {a : Addr} {x : ExceptionTableEntry} {t : List ExceptionTableEntry} {cT : ClassId} {cell : Cell} (hx : covers x f.pc = true) (h0 : x.catchType ≠ 0)
    (hl : s.vm.ClassLinks e.platform f.method.cls x.catchType cT) (hcell : s.heap[a]? = some cell) (hobj : ∀ k, cell.vm ≠ .statics k) (hk : ∃ k, s.vm.classes[cell.cls]? = some k) (hc : ∃ k, s.vm.classes[cT]? = some k) {b : Bool} (hb : s.vm.assignable cell.cls cT = b) :
    wp (findHandler.go f a (x :: t)) Q E e d acts s ↔ (if b = true then Q (.found x.handlerPc) d acts (s.setVm (s.vm.noted f.method.cls x.catchType (.cls cT))) else wp (findHandler.go f a t) Q E e d acts (s.setVm (s.vm.noted f.method.cls x.catchType (.cls cT)))) := by
  simp only [covers] at hx
  obtain ⟨ha, ht⟩ := (resolveClass_links e.toSetting hl).op (op := VmOp.resolveClass f.method.cls x.catchType) rfl
  have hal : s.vm.Alike (s.vm.noted f.method.cls x.catchType (.cls cT)) := (Vm.Alike.refl s.vm).noted _ _ _
  obtain ⟨k1, hk1⟩ := hk
  obtain ⟨k2, hk2⟩ := hc
  obtain ⟨k1', hk1', -⟩ := hal.2.2 _ _ hk1
  obtain ⟨k2', hk2', -⟩ := hal.2.2 _ _ hk2
  have hb' : (s.vm.noted f.method.cls x.catchType (.cls cT)).assignable cell.cls cT = b := by rw [hal.assignable]; exact hb
  cases b <;> simp [findHandler.go, hx, h0, ha, ht, hcell, hobj, hk1', hk2', hb', VmOp.dirties, VmOp.acts]
section EPX
variable {p : Program} {l : Launch} {e : Env} {R : Room} {s : State} {m : MethodId} {args : Array Value} {below : List Frame} {meth : Method} {c : Code} {H : Heap} {locs : List Loc} {cells slots : Nat} {Q : State → Prop}
theorem ep_pushT {T : State} (X : Stand p l e R s m args below meth c T locs cells slots) (g : JFrame) (a : Addr) : (T.setTop g).pushFrame (.throwing a) = T.setFrames (.throwing a :: .java g :: below) := by
  obtain ⟨g₁, hfr⟩ := X.frames_eq
  rw [State.pushFrame, State.frames_setTop _ hfr, State.setTop_of_frames _ hfr, State.setFrames_setFrames]
theorem ep_search {own cn : String} {a : Addr} {cell : Cell} {g : JFrame} (hg : g.method = m) (hown : s.vm.findClass own = some m.cls) {x : ExceptionTableEntry} {post : List ExceptionTableEntry} (hx : covers x g.pc = true) (hx0 : x.catchType ≠ 0) (hlink : (Cond.classLink own x.catchType cn).before args s = true)
    (hobj : cell.vm.isStatics = false) (hcn : s.vm.findClass cn = some cell.cls) (F : List Frame) : ∀ (pre : List ExceptionTableEntry), (∀ y ∈ pre, covers y g.pc = true ∧ y.catchType ≠ 0 ∧ ∃ nm, (Cond.classLink own y.catchType nm).before args s = true ∧ va_Nc cn nm s) →
    ∀ T : State, Stand p l e R s m args below meth c T locs cells slots → T.heap[a]? = some cell → ∃ vm', Stand p l e R s m args below meth c (T.setVm vm') locs cells slots ∧
      ∀ (Q : Handler → Pre) (E : CtlPost) (d : Bool) (acts : List Action), wp (findHandler.go g a (pre ++ x :: post)) Q E e d acts (T.setFrames F) ↔ Q (.found x.handlerPc) d acts ((T.setFrames F).setVm vm') := by
  subst hg
  obtain ⟨kc, hkc, -⟩ := Vm.findClass_spec hcn
  intro pre
  induction pre with
  | nil =>
    intro _ T X hc
    have hpl : e.platform.magicAccessors = ({} : Platform).magicAccessors := by rw [X.admits.platform]
    obtain ⟨c', hc', hcl⟩ := Cond.classLink_spec hown hlink e.platform hpl
    cases hcn.symm.trans hc'
    obtain ⟨dk, _, _, kt, hd, _, _, _, _, hkt, _, hopn⟩ := hcl.here
    have hcl₀ := X.warmed.classLinks hcl
    have hW' : s.WarmedH (T.vm.noted g.method.cls x.catchType (.cls cell.cls)) := X.warmed.noted hd hopn (State.rightAt_cls hcl)
    obtain ⟨k1, hk1, -⟩ := X.warmed.alike.2.2 _ _ hkc
    refine ⟨_, X.noted hW', fun Q E d acts => ?_⟩
    rw [List.nil_append, ep_go (s := T.setFrames F) (f := g) hx hx0 hcl₀ hc (VmData.noStatics_of hobj) ⟨k1, hk1⟩ ⟨k1, hk1⟩ (b := true) (va_asg _ _), if_pos rfl]
    rfl
  | cons y ys ih =>
    intro hp T X hc
    obtain ⟨hy, hy0, nm, hyl, c1, c2, f1, f2, f3⟩ := hp y List.mem_cons_self
    cases hcn.symm.trans f1
    have hpl : e.platform.magicAccessors = ({} : Platform).magicAccessors := by rw [X.admits.platform]
    obtain ⟨c', hc', hcl⟩ := Cond.classLink_spec hown hyl e.platform hpl
    cases f2.symm.trans hc'
    obtain ⟨dk, _, _, kt, hd, _, _, _, _, hkt, _, hopn⟩ := hcl.here
    have hcl₀ := X.warmed.classLinks hcl
    have hW' : s.WarmedH (T.vm.noted g.method.cls y.catchType (.cls c2)) := X.warmed.noted hd hopn (State.rightAt_cls hcl)
    obtain ⟨k1, hk1, -⟩ := X.warmed.alike.2.2 _ _ hkc
    obtain ⟨k2, hk2, -⟩ := X.warmed.alike.2.2 _ _ hkt
    obtain ⟨vm', X', hgo⟩ := ih (fun z hz => hp z (List.mem_cons_of_mem _ hz)) (T.setVm _) (X.noted hW') hc
    refine ⟨vm', X', fun Q E d acts => ?_⟩
    rw [List.cons_append, ep_go (s := T.setFrames F) (f := g) hy hy0 hcl₀ hc (VmData.noStatics_of hobj) ⟨k1, hk1⟩ ⟨k2, hk2⟩ (b := false) (by show T.vm.assignable _ _ = _; rw [X.warmed.alike.assignable]; exact f3), if_neg (by decide)]
    exact hgo Q E d acts
theorem ep_stepCatch {e : Env} {s : State} {a : Addr} {f : JFrame} {r : List Frame} {pc : Nat} {vm' : Vm} (hfind : ∀ (Q : Handler → Pre) (E : CtlPost) (d : Bool) (acts : List Action), wp (findHandler f a) Q E e d acts s ↔ Q (.found pc) d acts (s.setVm vm')) :
    (stepThrowing e s a (.java f :: r)).Is ((s.setVm vm').setFrames (.java { f with pc := pc, stack := [.ref a] } :: r)) [] := by
  simp only [stepThrowing, searchFrame, vmDo]
  generalize hr : Sem.go _ e false [] s = res
  obtain ⟨as, rfl, ha⟩ := Sem.eq_ok_of hr (a := Handler.found pc) (s' := s.setVm vm') (acts' := []) (by simp [hfind _ _ _ _])
  exact ⟨rfl, ha⟩
/-- where an exception of this kind, thrown at pc, is caught -/
def ep_Cat (s : State) (args : Array Value) (own : String) (c : Code) (pc kind hpc : Nat) : Prop := ∃ (pre : List ExceptionTableEntry) (x : ExceptionTableEntry) (post : List ExceptionTableEntry), c.exceptionTable.toList = pre ++ x :: post ∧
  (∀ y ∈ pre, covers y pc = true ∧ y.catchType ≠ 0 ∧ ∃ nm, (Cond.classLink own y.catchType nm).before args s = true ∧ va_Nc (ep_xn kind) nm s) ∧ covers x pc = true ∧ x.catchType ≠ 0 ∧ (Cond.classLink own x.catchType (ep_xn kind)).before args s = true ∧ x.handlerPc = hpc
theorem ep_catchAt {T : State} (X : Stand p l e R s m args below meth c T locs cells slots) {own : String} (hown : s.vm.findClass own = some m.cls) {a kind hpc : Nat} {g : JFrame} (hg : g.method = m) (hcat : ep_Cat s args own c g.pc kind hpc) (hE : ep_Ex kind a T) :
    ∃ vm', Stand p l e R s m args below meth c (T.setVm vm') locs cells slots ∧ ∀ target, Steps p.tables e below ((T.setVm vm').setTop { g with pc := hpc, stack := [.ref a] }) target → Steps p.tables e below ((T.setTop g).pushFrame (.throwing a)) target := by
  obtain ⟨pre, x, post, htab, hpre, hx, hx0, hlink, rfl⟩ := hcat
  obtain ⟨cell, q1, q2, q3⟩ := hE
  rw [X.warmed.alike.findClass] at q3
  obtain ⟨vm', X', hgo⟩ := ep_search (post := post) hg hown hx hx0 hlink q2 q3 (.throwing a :: .java g :: below) pre hpre T X q1
  refine ⟨vm', X', fun target ht => ?_⟩
  have h : At T g.method c below := by rw [hg]; exact X.here
  have hfind : ∀ (Q : Handler → Pre) (E : CtlPost) (d : Bool) (acts : List Action), wp (findHandler g a) Q E e d acts ((T.setTop g).pushFrame (.throwing a)) ↔ Q (.found x.handlerPc) d acts (((T.setTop g).pushFrame (.throwing a)).setVm vm') := by
    intro Q E d acts
    rw [ep_pushT X g a, W.findHandler_eq (meth := meth) (code := c) (by rw [hg]; exact X.method') X.code, htab]
    exact hgo Q E d acts
  obtain ⟨hgo2, hw⟩ := h.throwing a
  refine Steps.head hgo2 hw ?_
  rw [stepThread_throwing (frames_entered h.top _), (ep_stepCatch (s := (T.setTop g).pushFrame (.throwing a)) hfind).1]
  obtain ⟨g₁, hfr⟩ := X.frames_eq
  have hfr' : (T.setVm vm').frames = .java g₁ :: below := hfr
  rw [State.setTop_of_frames _ hfr'] at ht
  rw [hfr, List.tail_cons, ep_pushT X g a]
  have h1 : (((T.setFrames (.throwing a :: .java g :: below)).setVm vm').setFrames (.java { g with pc := x.handlerPc, stack := [.ref a] } :: below)) = (T.setVm vm').setFrames (.java { g with pc := x.handlerPc, stack := [.ref a] } :: below) := by
    have h2 : (T.setFrames (.throwing a :: .java g :: below)).setVm vm' = (T.setVm vm').setFrames (.throwing a :: .java g :: below) := rfl
    rw [h2, State.setFrames_setFrames]
  rw [h1]
  exact ht
variable {cc : ByteArray} {pc hpc : Nat} {ls : Array Slot} {rest : List Value} {G : EG} {cl : List vw_C} {a : Nat} {h : Hp} {own : String}
/-- the called method throws, and it's caught here -/
theorem ep_catchT {st0 : List Value} {av : Array Value} {mc ms : Nat} {x : Thr} (hown : s.vm.findClass own = some m.cls) (hr : ep_RunT p l e R s m args below meth c H locs cells slots mc ms (F0 m pc ls st0) rest (ep_Qt G cl x av) (ep_A G)) (hw : ep_W G cl h s H locs) (hcat : ep_Cat s args own c pc x.1 hpc)
    (kk : ∀ (H1 : Heap) (locs1 : List Loc), ep_W G cl x.2.2 s H1 locs1 → W p l e R s m args below meth c H1 locs1 (cells + mc) (slots + ms) Q (F0 m hpc ls [.ref x.2.1])) : W p l e R s m args below meth c H locs cells slots Q (F0 m pc ls st0) := by
  intro T hT X
  obtain ⟨y, st₀, t, T', L, h0, X', hL, e1, e2, ⟨hxx, hR, ⟨hz, hk⟩, hE⟩, st⟩ := hr T hT X
  cases hxx
  rw [h0] at hz hk
  have hE' : ep_Ex x.1 x.2.1 T' := by
    obtain ⟨cell, q1, q2, q3⟩ := hE
    exact ⟨cell, by rw [e1]; exact q1, q2, by rw [e2]; exact q3⟩
  obtain ⟨vm', X2, st2⟩ := ep_catchAt X' hown (g := { F0 m pc ls st0 with stack := rest }) rfl hcat hE'
  have hw' : ep_W G cl x.2.2 s T'.heap (locs ++ L) := by
    refine ⟨by rw [e1]; exact hR, by rw [e1]; exact Nat.le_trans hw.2.1 hz, fun q h1 h2 => ?_, fun q hq => ?_⟩
    · rw [e1, hk q (Nat.lt_of_lt_of_le h1 hw.2.1) h2]
      exact hw.2.2.1 q h1 h2
    · rcases List.mem_append.mp hq with h | h
      · exact hw.2.2.2 q h
      · exact hL q h
  obtain ⟨t2, a1, b1⟩ := kk T'.heap (locs ++ L) hw' (T'.setVm vm') rfl X2
  exact ⟨t2, st _ (st2 _ a1), b1⟩
/-- the machine throws, and it's caught here -/
theorem ep_catchVm {st0 : List Value} {kind d k n : Nat} (hown : s.vm.findClass own = some m.cls) (hr : ep_Vm p l e R s m args below meth c H locs cells slots (F0 m pc ls st0) rest kind d k n) (hw : ep_W G cl h s H locs) (hcat : ep_Cat s args own c pc kind hpc)
    (kk : ∀ (H1 : Heap) (locs1 : List Loc), ep_W G cl (thH k h) s H1 locs1 → W p l e R s m args below meth c H1 locs1 (cells + k) (slots + n) Q (F0 m hpc ls [.ref (h.1 + d)])) : W p l e R s m args below meth c H locs cells slots Q (F0 m pc ls st0) := by
  intro T hT X
  obtain ⟨T', L, X', hL, hz, hq, hE, st⟩ := hr T hT X
  have hs : H.size = h.1 := hw.1.1
  rw [hs] at hE st
  obtain ⟨vm', X2, st2⟩ := ep_catchAt X' hown (g := { F0 m pc ls st0 with stack := rest }) rfl hcat hE
  obtain ⟨t2, a1, b1⟩ := kk T'.heap (locs ++ L) (hw.thrown hL hz hq) (T'.setVm vm') rfl X2
  exact ⟨t2, st _ (st2 _ a1), b1⟩
theorem ep_cat1 {kind a1 b1 h1 i1 : Nat} (htab : c.exceptionTable.toList.map (fun h => (h.startPc, h.endPc, h.handlerPc, h.catchType)) = [(a1, b1, h1, i1)]) (hpc : a1 ≤ pc ∧ pc < b1) (hi : i1 ≠ 0) (hl1 : (Cond.classLink own i1 (ep_xn kind)).before args s = true) : ep_Cat s args own c pc kind h1 := by
  match he : c.exceptionTable.toList, htab with
  | [x], ht =>
    simp only [List.map_cons, List.map_nil, List.cons.injEq, Prod.mk.injEq, and_true] at ht
    obtain ⟨e1, e2, e3, e4⟩ := ht
    exact ⟨[], x, [], he, fun _ h => (List.not_mem_nil h).elim, by simp [covers, e1, e2, hpc.1, hpc.2], by rw [e4]; exact hi, by rw [e4]; exact hl1, e3⟩
theorem ep_cat2a {kind a1 b1 h1 i1 : Nat} {q2 : Nat × Nat × Nat × Nat} {qs : List (Nat × Nat × Nat × Nat)} (htab : c.exceptionTable.toList.map (fun h => (h.startPc, h.endPc, h.handlerPc, h.catchType)) = (a1, b1, h1, i1) :: q2 :: qs) (hpc : a1 ≤ pc ∧ pc < b1) (hi : i1 ≠ 0) (hl1 : (Cond.classLink own i1 (ep_xn kind)).before args s = true) : ep_Cat s args own c pc kind h1 := by
  match he : c.exceptionTable.toList, htab with
  | x :: xs, ht =>
    simp only [List.map_cons, List.cons.injEq, Prod.mk.injEq] at ht
    obtain ⟨⟨e1, e2, e3, e4⟩, -⟩ := ht
    exact ⟨[], x, xs, he, fun _ h => (List.not_mem_nil h).elim, by simp [covers, e1, e2, hpc.1, hpc.2], by rw [e4]; exact hi, by rw [e4]; exact hl1, e3⟩
theorem ep_cat2b {kind a1 b1 h1 i1 a2 b2 h2 i2 : Nat} {nm : String} {qs : List (Nat × Nat × Nat × Nat)} (htab : c.exceptionTable.toList.map (fun h => (h.startPc, h.endPc, h.handlerPc, h.catchType)) = (a1, b1, h1, i1) :: (a2, b2, h2, i2) :: qs) (hpc : (a1 ≤ pc ∧ pc < b1) ∧ a2 ≤ pc ∧ pc < b2) (hi : i1 ≠ 0 ∧ i2 ≠ 0) (hl1 : (Cond.classLink own i1 nm).before args s = true) (hn : va_Nc (ep_xn kind) nm s) (hl2 : (Cond.classLink own i2 (ep_xn kind)).before args s = true) : ep_Cat s args own c pc kind h2 := by
  match he : c.exceptionTable.toList, htab with
  | x :: y :: xs, ht =>
    simp only [List.map_cons, List.cons.injEq, Prod.mk.injEq] at ht
    obtain ⟨⟨e1, e2, e3, e4⟩, ⟨f1, f2, f3, f4⟩, -⟩ := ht
    refine ⟨[x], y, xs, he, fun z hz => ?_, by simp [covers, f1, f2, hpc.2.1, hpc.2.2], by rw [f4]; exact hi.2, by rw [f4]; exact hl2, f3⟩
    cases List.mem_singleton.mp hz
    exact ⟨by simp [covers, e1, e2, hpc.1.1, hpc.1.2], by rw [e4]; exact hi.1, nm, by rw [e4]; exact hl1, hn⟩
theorem ep_cat3c {kind a1 b1 h1 i1 a2 b2 h2 i2 a3 b3 h3 i3 : Nat} {nm nm2 : String} {qs : List (Nat × Nat × Nat × Nat)} (htab : c.exceptionTable.toList.map (fun h => (h.startPc, h.endPc, h.handlerPc, h.catchType)) = (a1, b1, h1, i1) :: (a2, b2, h2, i2) :: (a3, b3, h3, i3) :: qs) (hpc : (a1 ≤ pc ∧ pc < b1) ∧ (a2 ≤ pc ∧ pc < b2) ∧ a3 ≤ pc ∧ pc < b3) (hi : i1 ≠ 0 ∧ i2 ≠ 0 ∧ i3 ≠ 0) (hl1 : (Cond.classLink own i1 nm).before args s = true) (hn : va_Nc (ep_xn kind) nm s) (hl2 : (Cond.classLink own i2 nm2).before args s = true) (hn2 : va_Nc (ep_xn kind) nm2 s) (hl3 : (Cond.classLink own i3 (ep_xn kind)).before args s = true) : ep_Cat s args own c pc kind h3 := by
  match he : c.exceptionTable.toList, htab with
  | x :: y :: z :: xs, ht =>
    simp only [List.map_cons, List.cons.injEq, Prod.mk.injEq] at ht
    obtain ⟨⟨e1, e2, e3, e4⟩, ⟨f1, f2, f3, f4⟩, ⟨g1, g2, g3, g4⟩, -⟩ := ht
    refine ⟨[x, y], z, xs, he, fun w hz => ?_, by simp [covers, g1, g2, hpc.2.2.1, hpc.2.2.2], by rw [g4]; exact hi.2.2, by rw [g4]; exact hl3, g3⟩
    simp only [List.mem_cons, List.not_mem_nil, or_false] at hz
    rcases hz with rfl | rfl
    · exact ⟨by simp [covers, e1, e2, hpc.1.1, hpc.1.2], by rw [e4]; exact hi.1, nm, by rw [e4]; exact hl1, hn⟩
    · exact ⟨by simp [covers, f1, f2, hpc.2.1.1, hpc.2.1.2], by rw [f4]; exact hi.2.1, nm2, by rw [f4]; exact hl2, hn2⟩
end EPX
