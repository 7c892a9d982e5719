/-! ===== contracts of methods that throw: MetT; MetX: by the answer, Met or MetT ===== -/
set_option maxRecDepth 100000
def ep_FT (s : State) (o : Outcome) (t : State) (L : List Loc) (k n : Nat) : Prop := (∃ x, o = .threw x) ∧ s.WarmedH t.vm ∧ s.sameButNew ({ t with vm := s.vm } : State) L k n
def MetT (l : Launch) (y : MethodName) (ws : List Cond) (rm : Room) (Pc : Array Value → State → Prop) (Qc : Array Value → State → Outcome → State → Prop) (mc ms : Nat) (free : Addr → Prop) : Prop :=
  MetFree l y (headSpec ws rm) Pc (fun _ _ _ _ _ => True) (fun a st o t => Qc a st o t ∧ ∃ L, ep_FT st o t L mc ms ∧ ∀ q ∈ L, free q.base)
def MQT (below : List Frame) (Qc : Array Value → State → Outcome → State → Prop) (a : Array Value) (s : State) (mc ms : Nat) (free : Addr → Prop) : State → Prop := fun t =>
  ∃ o, t.status = .running ∧ Ended t below o ∧ Qc a s o t ∧ ∃ L, ep_FT s o t L mc ms ∧ ∀ q ∈ L, free q.base
/-- an exception: which, its address, the heap -/
abbrev Thr : Type := Nat × Nat × Hp
def ep_xn (k : Nat) : String := match k with
  | 0 => "EchoPens$Fault"
  | 1 => "java/lang/NullPointerException"
  | 2 => "java/lang/ArrayIndexOutOfBoundsException"
  | 3 => "java/lang/ClassCastException"
  | _ => "java/lang/NegativeArraySizeException"
def ep_Ex (k x : Nat) (t : State) : Prop := ∃ cell : Cell, t.heap[x]? = some cell ∧ cell.vm.isStatics = false ∧ t.vm.findClass (ep_xn k) = some cell.cls
/-- thrown -/
def ep_Qt (G : EG) (cl : List vw_C) (x : Thr) : Array Value → State → Outcome → State → Prop := fun _ st o t => o = .threw x.2.1 ∧ ep_R G cl x.2.2 t.heap ∧ va_F (ep_A G) st t ∧ ep_Ex x.1 x.2.1 t
def MetX (l : Launch) (y : MethodName) (ws : List Cond) (rm : Room) (G : EG) (cl : List vw_C) (Pc : Array Value → State → Prop) {ρ : Type} (Qc : ρ → Array Value → State → Outcome → State → Prop) (mc ms : Nat) (free : Addr → Prop) (res : Thr ⊕ ρ) : Prop := match res with
  | .inr r => Met l y ws rm Pc (Qc r) mc ms free
  | .inl x => MetT l y ws rm Pc (ep_Qt G cl x) mc ms free
def MQX (below : List Frame) (G : EG) (cl : List vw_C) {ρ : Type} (Qc : ρ → Array Value → State → Outcome → State → Prop) (a : Array Value) (s : State) (mc ms : Nat) (free : Addr → Prop) (res : Thr ⊕ ρ) : State → Prop := match res with
  | .inr r => MQ below (Qc r) a s mc ms free
  | .inl x => MQT below (ep_Qt G cl x) a s mc ms free
theorem MetT.ofW {l : Launch} {y : MethodName} {ws ws' : List Cond} {rm : Room} {Pc : Array Value → State → Prop} {Qc : Array Value → State → Outcome → State → Prop} {mc ms : Nat} {free : Addr → Prop} {cc : ByteArray} {maxL : Nat} {ret : Option FieldType}
    (hy : plainName y.cls = true) (hw : ws = Cond.code y cc maxL ret :: ws')
    (body : ∀ p e s m args below meth c s₁, BodyLoose p l y (headSpec ws rm) cc maxL ret e s m args below meth c s₁ → c.maxLocals = maxL → Pc args s →
      W p l e (headSpec ws rm).room s m args below meth c s.heap [] 0 0 (MQT below Qc args s mc ms free) (entryFrame m args maxL)) : MetT l y ws rm Pc Qc mc ms free := by
  refine MetFree.of_bodyS (code := cc) (maxLocals := maxL) (ret := ret) hy ?_ ?_
  · intro args s m h hn
    obtain ⟨meth, c, h1, h2, h3, h4, h5, h6, -, -⟩ := Cond.code_spec hn (atoms_spec (ws := ws) h _ (by rw [hw]; exact List.mem_cons_self))
    exact ⟨meth, c, h1, h2, h3, h4, h5, h6⟩
  · intro p e s m args below meth c s₁ B hml hP _
    have hh0 : s₁.heap = s.heap := by rw [B.state]; rfl
    obtain ⟨t, a1, o, b1, b2, b3⟩ := body p e s m args below meth c s₁ B hml hP s₁ hh0 (Stand.of_body B)
    exact ⟨t, o, a1, b1, b2, ⟨b3.1, b3.2⟩⟩
theorem MetX.ofW {l : Launch} {y : MethodName} {ws ws' : List Cond} {rm : Room} {G : EG} {cl : List vw_C} {Pc : Array Value → State → Prop} {ρ : Type} {Qc : ρ → Array Value → State → Outcome → State → Prop} {mc ms : Nat} {free : Addr → Prop} {res : Thr ⊕ ρ} {cc : ByteArray} {maxL : Nat} {ret : Option FieldType}
    (hy : plainName y.cls = true) (hw : ws = Cond.code y cc maxL ret :: ws')
    (body : ∀ p e s m args below meth c s₁, BodyLoose p l y (headSpec ws rm) cc maxL ret e s m args below meth c s₁ → c.maxLocals = maxL → Pc args s → c.exceptionTable.toList = [] →
      W p l e (headSpec ws rm).room s m args below meth c s.heap [] 0 0 (MQX below G cl Qc args s mc ms free res) (entryFrame m args maxL)) : MetX l y ws rm G cl Pc Qc mc ms free res := by
  have hno : ∀ p e s m args below meth c s₁, BodyLoose p l y (headSpec ws rm) cc maxL ret e s m args below meth c s₁ → c.exceptionTable.toList = [] := by
    intro p e s m args below meth c s₁ B
    have h := B.noHandlers (atoms_spec (ws := ws) B.pre _ (by rw [hw]; exact List.mem_cons_self))
    simpa using h
  cases res with
  | inr r => exact Met.ofW hy hw (fun p e s m args below meth c s₁ B h1 h2 => body p e s m args below meth c s₁ B h1 h2 (hno _ _ _ _ _ _ _ _ _ B))
  | inl x => exact MetT.ofW hy hw (fun p e s m args below meth c s₁ B h1 h2 => body p e s m args below meth c s₁ B h1 h2 (hno _ _ _ _ _ _ _ _ _ B))
/-- a call that throws -/
def ep_RunT (p : Program) (l : Launch) (e : Env) (R : Room) (s : State) (m : MethodId) (args : Array Value) (below : List Frame) (meth : Method) (c : Code) (H : Heap) (locs : List Loc) (cells slots mc ms : Nat) (g : JFrame) (rest : List Value) (Qa : State → Outcome → State → Prop) (free : Addr → Prop) : Prop :=
  ∀ T : State, T.heap = H → Stand p l e R s m args below meth c T locs cells slots → ∃ (x : Addr) (st₀ t T' : State) (L : List Loc), st₀.heap = H ∧ Stand p l e R s m args below meth c T' (locs ++ L) (cells + mc) (slots + ms) ∧ (∀ q ∈ L, free q.base) ∧ T'.heap = t.heap ∧ T'.vm = t.vm ∧ Qa st₀ (.threw x) t ∧
    ∀ target, Steps p.tables e below ((T'.setTop { g with stack := rest }).pushFrame (.throwing x)) target → Steps p.tables e below (T.setTop g) target
def ep_BackT (l : Launch) (R : Room) (p : Program) (e : Env) (below : List Frame) (s : State) (sargs : Array Value) (y : MethodName) (len W : Nat) (mc ms : Nat) (Pc : Array Value → State → Prop) (Qc : Array Value → State → Outcome → State → Prop) (free : Addr → Prop) : Prop :=
  ∀ (m : MethodId) (meth : Method) (c : Code) (U : State) (locs : List Loc) (cells slots : Nat) (g : JFrame) (ig : Instr) (mk : MethodId) (a : Array Value),
    Stand p l e R s m sargs below meth c U locs cells slots → g.method = m → g.locals.size = c.maxLocals → decode c.code g.pc = .ok (ig, len) →
    2 * g.monitorRoom + (g.stack.map fun v => v.category).sum ≤ W → U.methodNamed? y = some mk → cells + mc ≤ R.cells → slots + ms ≤ R.slots → Pc a U →
    ∃ (x : Addr) (t T' : State) (L : List Loc), Stand p l e R s m sargs below meth c T' (locs ++ L) (cells + mc) (slots + ms) ∧ (∀ q ∈ L, free q.base) ∧ T'.heap = t.heap ∧ T'.vm = t.vm ∧ Qc a (U.calling g mk a) (.threw x) t ∧
      Steps p.tables e below (doInvoke e (U.setTop g) [] mk a).1 ((T'.setTop g).pushFrame (.throwing x))
theorem ep_backT {l : Launch} {R : Room} {p : Program} {e : Env} {below : List Frame} {s : State} {sargs : Array Value} {y : MethodName} {len W : Nat} {ws : List Cond} {rm : Room} {Pc : Array Value → State → Prop} {Qc : Array Value → State → Outcome → State → Prop} {mc ms : Nat} {free : Addr → Prop} {bytes : ByteArray} {maxL : Nat} {ret : Option FieldType}
    (hM : MetT l y ws rm Pc Qc mc ms free) (hblind : FrameBlind Pc) (hrc : rm.cells = mc) (hrs : rm.slots = ms)
    (hframes : rm.frames + 1 ≤ R.frames) (hlocals : W + (maxL + 11) + rm.locals ≤ R.locals)
    (hws : ∀ w ∈ ws, ∀ a' U, s.WarmedH U.vm → w.before a' U = true) (hcode : Cond.code y bytes maxL ret ∈ ws) (hinit : ∀ a' U, s.WarmedH U.vm → (Cond.initialized y.cls).before a' U = true) :
    ep_BackT l R p e below s sargs y len W mc ms Pc Qc free := by
  intro m meth c U locs cells slots g ig mk a X hg hsize hdg hW hn hc hs hP
  obtain ⟨methY, cY, hmY, hcY, -, hlY, -, -, -, -⟩ := Cond.code_spec hn (hws _ hcode a U X.warmed)
  obtain ⟨kY, hkY, -⟩ := className_of_methodNamed hn
  have hinitY : kY.init = .initialized := Cond.initialized_spec (findClass_of_methodNamed hn) hkY (hinit a U X.warmed)
  have h : At U g.method c below := by rw [hg]; exact X.here
  have happ : (headSpec ws rm).appliesLoose y e.platform (U.calling g mk a) = true :=
    Spec.appliesLoose_calling (g := g) h hdg hn hkY hinitY
      (X.room_calling (g := g) (R' := (headSpec ws rm).room) hsize hmY hcY hframes (by rw [hlY]; show _ + rm.locals ≤ _; omega) (by show _ + rm.cells ≤ _; rw [hrc]; exact hc) (by show _ + rm.slots ≤ _; rw [hrs]; exact hs)) (atoms_intro fun w hw => hws w hw _ _ X.warmed)
  obtain ⟨mid, hmid⟩ := h.above
  have hfr : (U.setTop g).frames = (.java g :: mid) ++ below := by rw [State.frames_setTop' g h.top, hmid]; rfl
  obtain ⟨o, s₂, hsteps, -, hend, hq, L, hfe, hL⟩ := Steps.callFree hM p X.admits X.cas X.clock (acts := []) hfr happ (hblind _ _ _ _ hP) trivial
  rw [State.frames_setTop' g h.top, X.tail] at hend
  obtain ⟨⟨x, rfl⟩, hW₂, hsame⟩ := hfe
  obtain ⟨T', X', -, hB, ht⟩ := X.outOfThrown hg hend hW₂ hsame
  refine ⟨x, s₂, T', L, X', hL, ?_, ?_, hq, ?_⟩
  · rw [ht]; exact (Stand.throwing_heap T' g x).symm
  · rw [ht]; exact (Stand.throwing_vm T' g x).symm
  · rw [← ht]; exact hsteps
section EPT
variable {p : Program} {l : Launch} {e : Env} {R : Room} {s : State} {m : MethodId} {args : Array Value} {below : List Frame} {meth : Method} {c : Code} {H : Heap} {locs : List Loc} {cells slots : Nat} {Q : State → Prop}
variable {y : MethodName} {bytes cc : ByteArray} {maxL nL mc ms n index : Nat} {ret : Option FieldType} {ws : List Cond} {rm : Room} {Pc : Array Value → State → Prop} {Qc : Array Value → State → Outcome → State → Prop} {free : Addr → Prop} {Ts : List Cond} {own C : String} {b : Addr} {As rest : List Value} {g : JFrame}
theorem ep_callBackT (cb : CallB R s args own index y bytes maxL ret ws rm mc ms n) (hM : MetT l y ws rm Pc Qc mc ms free) (hbl : FrameBlind Pc) : ep_BackT l R p e below s args y 3 8 mc ms Pc Qc free := by
  obtain ⟨hrc, hrs, hfr, hlo, hws, hcw, -, hini, -⟩ := cb
  exact ep_backT (bytes := bytes) (maxL := maxL) (ret := ret) hM hbl hrc hrs hfr hlo hws hcw (fun a' U hW => word_at hW (Or.inl (by first | rfl | simp [Cond.onTables, Cond.keeps, Cond.steady])) hini)
theorem ep_runVT (S : CallFix p m c cc nL s args Ts own) (hM : MetT l y ws rm Pc Qc mc ms free) (cw : CallW R s args own C index y bytes maxL ret ws rm mc ms n) (hp : PreV s H C b Pc As)
    (hg : g.method = m) (hn : As.length = n) (hsize : g.locals.size = nL) (hstack : g.stack = As.reverse ++ .ref b :: rest) (hW : 2 * g.monitorRoom + (rest.map fun v => v.category).sum ≤ 8) (hdg : decode cc g.pc = .ok (.invokevirtual index, 3)) (hf : cells + mc ≤ R.cells ∧ slots + ms ≤ R.slots) :
    ep_RunT p l e R s m args below meth c H locs cells slots mc ms g rest (Qc (Value.ref b :: As).toArray) free := by
  have hK := ep_callBackT (p := p) (e := e) (below := below) cw.1 hM hp.1
  obtain ⟨⟨-, -, -, -, -, -, hcode, -, hy, hlen, hl⟩, hin, hse⟩ := cw
  obtain ⟨hx, hb, hml, ho, -⟩ := S
  obtain ⟨-, ⟨cellB, hcB, hoB, hclB⟩, hPc⟩ := hp
  intro T hT X
  obtain ⟨mk, methM, hnamed, hmethM, hstM, habM⟩ := Cond.instanceMethod_spec hin
  obtain ⟨methM', cM, hmethM', -, -, -, -, -, -, hsigM⟩ := Cond.code_spec hnamed hcode
  cases hmethM.symm.trans hmethM'
  obtain ⟨c2, r2, m2, q1, q2, q3, q4, kP, hkP, hkPi⟩ := Cond.selects_spec hse
  cases hclB.symm.trans q1
  cases (State.methodFound?_of_named hnamed hy).symm.trans q2
  cases hnamed.symm.trans q3
  have hselP : selectMethod e.platform s.vm cellB.cls mk = .method mk := by rw [Launch.admits_selectMethod X.admits]; exact q4
  obtain ⟨vm₁, X₁, hstep₁⟩ := X.invokevirtual hx ho hl hnamed hmethM hstM hkP hkPi hy (a := b) (cell := cellB) (by rw [hT]; exact hcB)
    (fun z h => by rw [h] at hoB; cases hoB) hselP hmethM habM hkP hkPi (g := g) hg (argsL := As) (rest := rest) (hn.trans (hlen _ hsigM)) hstack (by rw [hb]; exact hdg)
  obtain ⟨x, t, T', L, X', hL, e1, e2, hq, hsteps⟩ := hK m meth c (T.setVm vm₁) locs cells slots { g with stack := rest } (.invokevirtual index) mk (Value.ref b :: As).toArray X₁ hg (hsize.trans hml.symm) (by rw [hb]; exact hdg) hW (X₁.named hnamed) hf.1 hf.2 (hPc (T.setVm vm₁) hT X₁.warmed)
  exact ⟨x, (T.setVm vm₁).calling { g with stack := rest } mk (Value.ref b :: As).toArray, t, T', L, hT, X', hL, e1, e2, hq, fun target h => hstep₁ _ fun acts => by rw [doInvoke_state]; exact hsteps.trans h⟩
theorem ep_runST (S : CallFix p m c cc nL s args Ts own) (hM : MetT l y ws rm Pc Qc mc ms free) (cw : CallB R s args own index y bytes maxL ret ws rm mc ms n ∧ (Cond.static y).before args s = true) (hp : PreS s H Pc As)
    (hg : g.method = m) (hn : As.length = n) (hsize : g.locals.size = nL) (hstack : g.stack = As.reverse ++ rest) (hW : 2 * g.monitorRoom + (rest.map fun v => v.category).sum ≤ 8) (hdg : decode cc g.pc = .ok (.invokestatic index, 3)) (hf : cells + mc ≤ R.cells ∧ slots + ms ≤ R.slots) :
    ep_RunT p l e R s m args below meth c H locs cells slots mc ms g rest (Qc As.toArray) free := by
  have hK := ep_callBackT (p := p) (e := e) (below := below) cw.1 hM hp.1
  obtain ⟨⟨-, -, -, -, -, -, hcode, hini, hy, hlen, hl⟩, hstt⟩ := cw
  obtain ⟨hx, hb, hml, ho, -⟩ := S
  intro T hT X
  obtain ⟨mk, hnamed⟩ := Cond.code_named hcode
  obtain ⟨methM, cM, hmethM, -, -, -, -, -, -, hsigM⟩ := Cond.code_spec hnamed hcode
  have hstatic : methM.isStatic = true := Cond.static_spec hnamed hmethM hstt
  obtain ⟨kP, hkP, -⟩ := className_of_methodNamed hnamed
  have hinitP : kP.init = .initialized := Cond.initialized_spec (findClass_of_methodNamed hnamed) hkP hini
  obtain ⟨vm₁, X₁, hstep₁⟩ := X.invokestatic hx ho hl hnamed hmethM hstatic hkP hinitP hy (g := g) hg (argsL := As) (rest := rest) (hn.trans (hlen _ hsigM)) hstack (by rw [hb]; exact hdg)
  obtain ⟨x, t, T', L, X', hL, e1, e2, hq, hsteps⟩ := hK m meth c (T.setVm vm₁) locs cells slots { g with stack := rest } (.invokestatic index) mk As.toArray X₁ hg (hsize.trans hml.symm) (by rw [hb]; exact hdg) hW (X₁.named hnamed) hf.1 hf.2 (hp.2 (T.setVm vm₁) hT X₁.warmed)
  exact ⟨x, (T.setVm vm₁).calling { g with stack := rest } mk As.toArray, t, T', L, hT, X', hL, e1, e2, hq, fun target h => hstep₁ _ fun acts => by rw [doInvoke_state]; exact hsteps.trans h⟩
theorem ep_runIT (S : CallFix p m c cc nL s args Ts own) (hM : MetT l y ws rm Pc Qc mc ms free) (cw : CallB R s args own index y bytes maxL none ws rm mc ms n ∧ y.name = "<init>" ∧ (Cond.instanceMethod y).before args s = true) (hp : PreS s H Pc (.ref b :: As))
    (hg : g.method = m) (hn : As.length = n) (hsize : g.locals.size = nL) (hstack : g.stack = As.reverse ++ .ref b :: rest) (hW : 2 * g.monitorRoom + (rest.map fun v => v.category).sum ≤ 8) (hdg : decode cc g.pc = .ok (.invokespecial index, 3)) (hf : cells + mc ≤ R.cells ∧ slots + ms ≤ R.slots) :
    ep_RunT p l e R s m args below meth c H locs cells slots mc ms g rest (Qc (Value.ref b :: As).toArray) free := by
  have hK := ep_callBackT (p := p) (e := e) (below := below) cw.1 hM hp.1
  obtain ⟨⟨-, -, -, -, -, -, hcode, -, hy, hlen, hl⟩, hy1, hin⟩ := cw
  obtain ⟨hx, hb, hml, ho, -⟩ := S
  intro T hT X
  subst hg
  have hpl : e.platform.magicAccessors = ({} : Platform).magicAccessors := by rw [X.admits.platform]
  obtain ⟨mk, methM, cM, kP, vm₁, hnamed, hmethM, hcodeM, -, hlocalsM, -, hkP, -, hW₁, hstep₁⟩ := Steps.initColdArgs (e := e) X.here hx X.warmed hpl ho hy1 hy hl hin hcode (f := g) rfl (fun sig h => hn.trans (hlen sig h)) hstack (by rw [hb]; exact hdg)
  have X₁ := X.noted hW₁
  obtain ⟨x, t, T', L, X', hL, e1, e2, hq, hsteps⟩ := hK g.method meth c (T.setVm vm₁) locs cells slots { g with stack := rest } (.invokespecial index) mk (Value.ref b :: As).toArray X₁ rfl (hsize.trans hml.symm) (by rw [hb]; exact hdg) hW (X₁.named hnamed) hf.1 hf.2 (hp.2 (T.setVm vm₁) hT X₁.warmed)
  exact ⟨x, (T.setVm vm₁).calling { g with stack := rest } mk (Value.ref b :: As).toArray, t, T', L, hT, X', hL, e1, e2, hq, fun target h => hstep₁ _ fun acts => by rw [doInvoke_state]; exact hsteps.trans h⟩
end EPT
/-- a Fault is thrown -/
def thF (h : Hp) (x : Nat) : Option Thr := if ep_cls h x = some 6 then some (0, x, h) else none
theorem MetX.r {l : Launch} {y : MethodName} {ws : List Cond} {rm : Room} {G : EG} {cl : List vw_C} {Pc : Array Value → State → Prop} {ρ : Type} {Qc : ρ → Array Value → State → Outcome → State → Prop} {mc ms : Nat} {free : Addr → Prop} {r : ρ} (h : MetX l y ws rm G cl Pc Qc mc ms free (.inr r)) : Met l y ws rm Pc (Qc r) mc ms free := h
theorem MetX.t {l : Launch} {y : MethodName} {ws : List Cond} {rm : Room} {G : EG} {cl : List vw_C} {Pc : Array Value → State → Prop} {ρ : Type} {Qc : ρ → Array Value → State → Outcome → State → Prop} {mc ms : Nat} {free : Addr → Prop} {x : Thr} (h : MetX l y ws rm G cl Pc Qc mc ms free (.inl x)) : MetT l y ws rm Pc (ep_Qt G cl x) mc ms free := h
section EPU
variable {p : Program} {l : Launch} {e : Env} {R : Room} {s : State} {m : MethodId} {args : Array Value} {below : List Frame} {meth : Method} {c : Code} {H : Heap} {locs : List Loc} {cells slots : Nat} {Q : State → Prop}
variable {cc : ByteArray} {pc : Nat} {ls : Array Slot} {rest : List Value} {G : EG} {cl : List vw_C} {a : Nat} {h h' : Hp} {ρ : Type} {Qr : ρ → Array Value → State → Outcome → State → Prop} {res : Thr ⊕ ρ}
/-- the called method throws, and so does this one -/
theorem ep_outT {st0 : List Value} {av : Array Value} {mc ms : Nat} {x : Thr} (hno : c.exceptionTable.toList = []) (hlocks : meth.locks = false) (hr : ep_RunT p l e R s m args below meth c H locs cells slots mc ms (F0 m pc ls st0) rest (ep_Qt G cl x av) (ep_A G)) (hw : ep_W G cl h s H locs) (hf : some (.inl x) = some res) :
    W p l e R s m args below meth c H locs cells slots (MQX below G cl Qr args s (cells + mc) (slots + ms) (ep_A G) res) (F0 m pc ls st0) := by
  cases hf
  intro T hT X
  obtain ⟨y, st₀, t, T', L, h0, X', hL, e1, e2, ⟨hxx, hR, ⟨hz, hk⟩, hE⟩, st⟩ := hr T hT X
  cases hxx
  rw [h0] at hz hk
  obtain ⟨a1, a2, a3, a4, a5⟩ := X'.leaveThrown x.2.1 (g := { F0 m pc ls st0 with stack := rest }) rfl rfl rfl (fun z hz => by rw [hno] at hz; cases hz) hlocks
  refine ⟨_, st _ a1, .threw x.2.1, a2, a3, ⟨rfl, ?_, ⟨?_, ?_⟩, ?_⟩, locs ++ L, ⟨⟨_, rfl⟩, a4, a5⟩, fun q hq => ?_⟩
  · show ep_R G cl x.2.2 T'.heap
    rw [e1]; exact hR
  · show s.heap.size ≤ T'.heap.size
    rw [e1]; exact Nat.le_trans hw.2.1 hz
  · intro q h1 h2
    show T'.heap[q]? = _
    rw [e1, hk q (Nat.lt_of_lt_of_le h1 hw.2.1) h2]
    exact hw.2.2.1 q h1 h2
  · obtain ⟨cell, q1, q2, q3⟩ := hE
    exact ⟨cell, by show T'.heap[x.2.1]? = _; rw [e1]; exact q1, q2, by show T'.vm.findClass _ = _; rw [e2]; exact q3⟩
  · rcases List.mem_append.mp hq with h | h
    · exact hw.2.2.2 q h
    · exact hL q h
/-- athrow of a Fault, out of the method -/
theorem ep_athrow {x : Nat} {th : Thr} (hexec : p.tables.exec = Jvm.exec) (hb : c.code = cc) (hno : c.exceptionTable.toList = []) (hlocks : meth.locks = false) (hK : ep_K G cl s) (hw : ep_W G cl h s H locs) {T6 : u_T} {N6 : Nat} (hcl : cl[6]? = some ("EchoPens$Fault", T6, N6)) (hth : thF h x = some th) (hf : some (.inl th) = some res) (hdg : decode cc pc = .ok (.athrow, 1)) :
    W p l e R s m args below meth c H locs cells slots (MQX below G cl Qr args s cells slots (ep_A G) res) (F0 m pc ls (.ref x :: rest)) := by
  obtain ⟨hc6, hth⟩ := oi_c hth
  cases hth
  cases hf
  obtain ⟨fs, hfs⟩ := ep_cls_s hc6
  obtain ⟨r, r1, cell, q1, q2, q3, -⟩ := (hw.1.2.2 x _ hfs).1
  have hr : r = ("EchoPens$Fault", T6, N6) := Option.some.inj (r1.symm.trans hcl)
  subst hr
  have hcc : s.vm.findClass "EchoPens$Fault" = some (G.1.1 6) := (hK.1 6 _ hcl).2.1
  intro T hT X
  obtain ⟨a1, a2, a3, a4, a5⟩ := X.athrowLeaves hexec (g := F0 m pc ls (.ref x :: rest)) rfl rfl rfl (fun z hz => by rw [hno] at hz; cases hz) rfl (by rw [hb]; exact hdg) hlocks
  refine ⟨_, a1, .threw x, a2, a3, ⟨rfl, ?_, ⟨?_, ?_⟩, ?_⟩, locs, ⟨⟨_, rfl⟩, a4, a5⟩, fun q hq => hw.2.2.2 q hq⟩
  · show ep_R G cl h T.heap
    rw [hT]; exact hw.1
  · show s.heap.size ≤ T.heap.size
    rw [hT]; exact hw.2.1
  · intro q h1 h2
    show T.heap[q]? = _
    rw [hT]
    exact hw.2.2.1 q h1 h2
  · refine ⟨cell, by show T.heap[x]? = _; rw [hT]; exact q1, by rw [q3]; rfl, ?_⟩
    show T.vm.findClass "EchoPens$Fault" = _
    rw [X.warmed.alike.findClass, q2]
    exact hcc
/-- the answers of methods that may throw -/
theorem ep_retiX {v : Int32} {res : Thr ⊕ (Int32 × Hp)} (hexec : p.tables.exec = Jvm.exec) (hb : c.code = cc) (hr : meth.sig.returnType = some .int) (hlocks : meth.locks = false) (hw : ep_W G cl h s H locs) (hf : some (.inr (v, h)) = some res) (hdg : decode cc pc = .ok (.ireturn, 1)) : W p l e R s m args below meth c H locs cells slots (MQX below G cl (fun r => ep_Qi G cl r.2 r.1) args s cells slots (ep_A G) res) (F0 m pc ls [.int v]) := by
  cases hf
  exact ep_retiW hexec hb hr hlocks hw rfl hdg
theorem ep_retvX {res : Thr ⊕ Hp} (hexec : p.tables.exec = Jvm.exec) (hb : c.code = cc) (hr : meth.sig.returnType = none) (hlocks : meth.locks = false) (hw : ep_W G cl h s H locs) (hf : some (.inr h) = some res) (hdg : decode cc pc = .ok (.return_, 1)) : W p l e R s m args below meth c H locs cells slots (MQX below G cl (fun r => ep_Qv G cl r) args s cells slots (ep_A G) res) (F0 m pc ls []) := by
  cases hf
  exact ep_retvW hexec hb hr hlocks hw rfl hdg
end EPU
theorem sm_r {α β : Type} {a b : β} (h : some (Sum.inr a : α ⊕ β) = some (.inr b)) : some a = some b := by cases h; rfl
section EPU2
variable {p : Program} {l : Launch} {e : Env} {R : Room} {s : State} {m : MethodId} {args : Array Value} {below : List Frame} {meth : Method} {c : Code} {H : Heap} {locs : List Loc} {cells slots : Nat}
variable {cc : ByteArray} {pc : Nat} {ls : Array Slot} {rest : List Value} {G : EG} {cl : List vw_C} {h : Hp} {ρ : Type} {res : Thr}
theorem ep_outT' {st0 : List Value} {av : Array Value} {mc ms : Nat} {x : Thr} (hno : c.exceptionTable.toList = []) (hlocks : meth.locks = false) (hr : ep_RunT p l e R s m args below meth c H locs cells slots mc ms (F0 m pc ls st0) rest (ep_Qt G cl x av) (ep_A G)) (hw : ep_W G cl h s H locs) (hf : some (Sum.inl x : Thr ⊕ ρ) = some (.inl res)) :
    W p l e R s m args below meth c H locs cells slots (MQT below (ep_Qt G cl res) args s (cells + mc) (slots + ms) (ep_A G)) (F0 m pc ls st0) := ep_outT (Qr := fun _ _ _ _ _ => False) hno hlocks hr hw hf
theorem ep_athrow' {x : Nat} {th : Thr} (hexec : p.tables.exec = Jvm.exec) (hb : c.code = cc) (hno : c.exceptionTable.toList = []) (hlocks : meth.locks = false) (hK : ep_K G cl s) (hw : ep_W G cl h s H locs) {T6 : u_T} {N6 : Nat} (hcl : cl[6]? = some ("EchoPens$Fault", T6, N6)) (hth : thF h x = some th) (hf : some (Sum.inl th : Thr ⊕ ρ) = some (.inl res)) (hdg : decode cc pc = .ok (.athrow, 1)) :
    W p l e R s m args below meth c H locs cells slots (MQT below (ep_Qt G cl res) args s cells slots (ep_A G)) (F0 m pc ls (.ref x :: rest)) := ep_athrow (Qr := fun _ _ _ _ _ => False) hexec hb hno hlocks hK hw hcl hth hf hdg
end EPU2
/-- Throwable's own fields, of an exception without message, cause, trace and suppressed ones -/
def thN (h : Hp) (a : Nat) : Option Hp := (pF h a 6 0 .null).bind fun h1 => (pF h1 a 6 1 .null).bind fun h2 => (pF h2 a 6 2 .null).bind fun h3 => pF h3 a 6 3 .null
theorem pF_i {h : Hp} {a ci k : Nat} {v : Value} {fs : List Value} (e : h.2 a = some (.inr (.inr (ci, fs)))) (hk : k < fs.length) : pF h a ci k v = some (ep_set h a (.inr (.inr (ci, fs.set k v)))) := by
  unfold pF; rw [e]; simp [hk]
theorem ep_set_at {h : Hp} {a : Nat} {o : Ob} : (ep_set h a o).2 a = some o := by simp [ep_set, va_up]
theorem ep_set2 {h : Hp} {a : Nat} {o o' : Ob} : ep_set (ep_set h a o) a o' = ep_set h a o' := by
  unfold ep_set va_up
  refine Prod.ext rfl (funext fun q => ?_)
  by_cases hq : q = a <;> simp [hq]
theorem thN_s {h h' : Hp} {a : Nat} (hf : thN h a = some h') (v w : Value) : ∃ k1 k2 k3 k4 k5 k6, pF h a 6 0 (.ref a) = some k1 ∧ pF k1 a 6 1 v = some k2 ∧ pF k2 a 6 2 w = some k3 ∧ pF k3 a 6 1 .null = some k4 ∧ pF k4 a 6 3 .null = some k5 ∧ pF k5 a 6 0 .null = some k6 ∧ pF k6 a 6 2 .null = some h' := by
  unfold thN at hf
  obtain ⟨h1, e1, hf⟩ := ob_s hf
  obtain ⟨h2, e2, hf⟩ := ob_s hf
  obtain ⟨h3, e3, e4⟩ := ob_s hf
  obtain ⟨fs, q1, l1, rfl⟩ := pF_s e1
  obtain ⟨fs2, q2, l2, rfl⟩ := pF_s e2
  rw [ep_set_at] at q2; cases q2
  obtain ⟨fs3, q3, l3, rfl⟩ := pF_s e3
  rw [ep_set_at] at q3; cases q3
  obtain ⟨fs4, q4, l4, rfl⟩ := pF_s e4
  rw [ep_set_at] at q4; cases q4
  simp only [List.length_set] at l2 l3 l4
  refine ⟨_, _, _, _, _, _, pF_i q1 l1, pF_i ep_set_at (by simpa using l2), pF_i ep_set_at (by simpa using l3), pF_i ep_set_at (by simpa using l2), pF_i ep_set_at (by simpa using l4), pF_i ep_set_at (by simpa using l1), ?_⟩
  rw [pF_i ep_set_at (by simpa using l3)]
  simp only [ep_set2]
  congr 5
  match fs, l4 with
  | b0 :: b1 :: b2 :: b3 :: t, _ => rfl
