/-! ===== contracts of methods whose class isn't said to be initialised (the four breeds): the start says all but 'the class is ripe', which a call through an object doesn't ask ===== -/
set_option maxRecDepth 100000
def ep_app (S : Spec) (x : MethodName) (pl : Platform) (s : State) (m : MethodId) (args : Array Value) (below : List Frame) : Prop := s.status = .running ∧ s.curStatus? = some .runnable ∧ s.alone = true ∧ s.methodNamed? x = some m ∧ s.hears m below = true ∧ s.hasRoom pl S.room = true ∧ S.pre.before args s = true
def MetC (l : Launch) (y : MethodName) (ws : List Cond) (rm : Room) (Pc : Array Value → State → Prop) (Qc : Array Value → State → Outcome → State → Prop) (mc ms : Nat) (free : Addr → Prop) : Prop :=
  ∀ (p : Program) (e : Env), l.admits e → FairCas e.choices → FairClock e.choices → ∀ (s : State) (m : MethodId) (args : Array Value) (below : List Frame), s.frames = .invoking m args :: below → ep_app (headSpec ws rm) y e.platform s m args below → Pc args s →
    ∃ n o, (∀ k, k < n → Within (stepsAlone p.tables e k s) below) ∧ (stepsAlone p.tables e n s).status = .running ∧ Ended (stepsAlone p.tables e n s) below o ∧ (Qc args s o (stepsAlone p.tables e n s) ∧ ∃ L, FrameEnd s o (stepsAlone p.tables e n s) L mc ms ∧ ∀ q ∈ L, free q.base)
theorem MetC.ofW {l : Launch} {y : MethodName} {ws ws' : List Cond} {rm : Room} {Pc : Array Value → State → Prop} {Qc : Array Value → State → Outcome → State → Prop} {mc ms : Nat} {free : Addr → Prop} {cc : ByteArray} {maxL : Nat} {ret : Option FieldType}
    (hy : plainName y.cls = true) (hw : ws = Cond.code y cc maxL ret :: ws')
    (body : ∀ (p : Program) (e : Env) (s : State) (m : MethodId) (args : Array Value) (below : List Frame) (meth : Method) (c : Code), p.tables.exec = Jvm.exec → c.code = cc → meth.sig.returnType = ret → meth.locks = false → c.maxLocals = maxL → (headSpec ws rm).pre.before args s = true → s.methodNamed? y = some m → Pc args s →
      W p l e (headSpec ws rm).room s m args below meth c s.heap [] 0 0 (MQ below Qc args s mc ms free) (entryFrame m args maxL)) : MetC l y ws rm Pc Qc mc ms free := by
  intro p e ha hc hk s m args below hf ⟨hrun, hable, halone, hname, hhears, hroom, hpre⟩ hP
  obtain ⟨meth, c, hmeth, hcode, hbytes, hlocals, hret, hlocks, -, -⟩ := Cond.code_spec hname (atoms_spec (ws := ws) hpre _ (by rw [hw]; exact List.mem_cons_self))
  have hcur := State.cur_lt_of_frames hf
  obtain ⟨t, ht, -⟩ := State.frames_cons hf
  have hf1 : (s.setFrames (.java (entryFrame m args maxL) :: below)).frames = .java (entryFrame m args maxL) :: below := State.frames_setFrames _ hcur
  have ht1 := State.topJava?_of_frames hf1
  have hplain : (s.setFrames (.java (entryFrame m args maxL) :: below)).plainMethod m := State.plainMethod.of_named (s := s) (plainFor_of_name hy) hname hmeth
  have hAt : At (s.setFrames (.java (entryFrame m args maxL) :: below)) m c below :=
    ⟨by rw [ht1]; rfl, ⟨[], by rw [hf1]; rfl⟩, hrun, by simpa using hable, by simpa using halone, by rw [State.code?_eq]; simp [State.setFrames, hmeth, hcode], hplain⟩
  have hstep : (stepThread p.tables e s).1 = (s.setFrames (.java (entryFrame m args maxL) :: below)).setTop (entryFrame m args maxL) := by
    have hfull : e.platform.stackFull (s.setFrames below).me (s.setFrames below).frames c.maxLocals = false := by
      obtain ⟨-, h1, -, h2⟩ := State.hasRoom_stack hroom
      rw [hf, List.length_cons] at h1
      rw [State.localsInUse_invoking hf hmeth hcode] at h2
      have hw := stackUse_le_stackWeight below
      rw [State.frames_setFrames _ hcur]
      exact Platform.stackFull_eq_false (by rw [State.stackLimits_setFrames]; omega) (by rw [State.stackLimits_setFrames]; omega)
    rw [stepThread_invoking hf, (doInvoke_java (s := s.setFrames below) (e := e) (meth := meth) (code := c) hmeth hcode hlocks hfull).1, State.setTop_self ht1]
    simp only [State.pushFrame, State.frames_setFrames _ hcur, State.setFrames_setFrames, hlocals, entryFrame]
  have X₀ : Stand p l e (headSpec ws rm).room s m args below meth c (s.setFrames (.java (entryFrame m args maxL) :: below)) [] 0 0 :=
    ⟨ha, hc, hk, hf, hroom, hhears, hmeth, hcode, hAt, by rw [hf1]; rfl, State.WarmedH.refl s, by rw [State.stackLimits_setFrames], by rw [State.stackBytes_setFrames], (State.sameButNew.refl s ht).setFrames (.java (entryFrame m args maxL) :: below) hcur⟩
  obtain ⟨s₂, hs, o, hr, he, hq⟩ := body p e s m args below meth c (by cases p <;> rfl) hbytes hret hlocks hlocals hpre hname hP (s.setFrames (.java (entryFrame m args maxL) :: below)) rfl X₀
  obtain ⟨n, hn, hw⟩ := Steps.head (tb := p.tables) (e := e) ⟨hrun, hable, halone⟩ ⟨[.invoking m args], hf, by simp, by simp⟩ (hstep ▸ hs)
  exact ⟨n, o, hw, hn ▸ hr, hn ▸ he, hn ▸ hq⟩
theorem ep_callC {l : Launch} {y : MethodName} {ws : List Cond} {rm : Room} {Pc : Array Value → State → Prop} {Qc : Array Value → State → Outcome → State → Prop} {mc ms : Nat} {free : Addr → Prop} {e : Env} (hM : MetC l y ws rm Pc Qc mc ms free) (p : Program) (ha : l.admits e) (hc : FairCas e.choices) (hk : FairClock e.choices)
    {s : State} {m : MethodId} {args : Array Value} {acts : List Action} {mid below : List Frame} (hfr : s.frames = mid ++ below) (hlt : s.cur < s.threads.size) (happ : ep_app (headSpec ws rm) y e.platform (s.pushFrame (.invoking m args)) m args s.frames) (hP : Pc args (s.pushFrame (.invoking m args))) :
    ∃ o s₂, Steps p.tables e below (doInvoke e s acts m args).1 s₂ ∧ s₂.status = .running ∧ Ended s₂ s.frames o ∧ (Qc args (s.pushFrame (.invoking m args)) o s₂ ∧ ∃ L, FrameEnd (s.pushFrame (.invoking m args)) o s₂ L mc ms ∧ ∀ q ∈ L, free q.base) := by
  obtain ⟨t, ht⟩ : ∃ t, s.threads[s.cur]? = some t := ⟨_, Array.getElem?_eq_getElem hlt⟩
  have hf' : (s.pushFrame (.invoking m args)).frames = .invoking m args :: s.frames := State.frames_setFrames _ hlt
  have hgo : (s.pushFrame (.invoking m args)).goesOn := ⟨happ.1, happ.2.1, happ.2.2.1⟩
  obtain ⟨n, o, hw, hr, he, hp⟩ := hM p e ha hc hk (s.pushFrame (.invoking m args)) m args s.frames hf' happ hP
  have hstep : (stepThread p.tables e (s.pushFrame (.invoking m args))).1 = (doInvoke e s acts m args).1 := by
    rw [stepThread_invoking hf', doInvoke_state e s acts, State.pushFrame, State.setFrames_setFrames, State.setFrames_self ht]
  cases n with
  | zero => exact absurd ⟨[.invoking m args], hf', by simp, by simp⟩ he.not_within
  | succ k =>
    rw [stepsAlone_succ _ hgo, hstep] at hr he hp
    refine ⟨o, _, ⟨k, rfl, fun j hj => ?_⟩, hr, he, hp⟩
    have := hw (j + 1) (by omega)
    rw [stepsAlone_succ _ hgo, hstep, hfr] at this
    exact this.weaken
theorem ep_backC {l : Launch} {R : Room} {p : Program} {e : Env} {below : List Frame} {s : State} {sargs : Array Value} {y : MethodName} {len W : Nat} {ws : List Cond} {rm : Room} {Pc : Array Value → State → Prop} {Qc : Array Value → State → Outcome → State → Prop} {mc ms : Nat} {free : Addr → Prop} {bytes : ByteArray} {maxL : Nat} {ret : Option FieldType}
    (hM : MetC l y ws rm Pc Qc mc ms free) (hblind : FrameBlind Pc) (hrc : rm.cells = mc) (hrs : rm.slots = ms)
    (hframes : rm.frames + 1 ≤ R.frames) (hlocals : W + (maxL + 11) + rm.locals ≤ R.locals)
    (hws : ∀ w ∈ ws, ∀ a' U, s.WarmedH U.vm → w.before a' U = true) (hcode : Cond.code y bytes maxL ret ∈ ws) :
    Back l R p e below s sargs y len W (PreOf R mc ms Pc) (PostOf Qc mc ms free) := by
  intro m meth c A g ig mk a X hg hsize hdg hW hn hp
  obtain ⟨U, Ls, c0, s0⟩ := A
  dsimp only [Pt.U, Pt.locs, Pt.cells, Pt.slots, PreOf] at hp X hn ⊢
  have h1 : (headSpec ws rm).pre.before a U = true := atoms_intro fun w hw => hws w hw _ _ X.warmed
  have h2 : (Cond.code y bytes maxL ret).before a U = true := hws _ hcode _ _ X.warmed
  obtain ⟨methY, cY, hmY, hcY, -, hlY, -, -, -, -⟩ := Cond.code_spec hn h2
  have h : At U g.method c below := by rw [hg]; exact X.here
  have hroom : (U.calling g mk a).hasRoom e.platform (headSpec ws rm).room = true := X.room_calling (g := g) (R' := (headSpec ws rm).room) hsize hmY hcY hframes (by rw [hlY]; show _ + rm.locals ≤ _; omega) (by show _ + rm.cells ≤ _; rw [hrc]; exact hp.1) (by show _ + rm.slots ≤ _; rw [hrs]; exact hp.2.1)
  have hcg : (U.calling g mk a).code? g.method = some c := by
    have := h.code
    rw [State.code?_eq] at this ⊢
    simpa [State.calling, State.pushFrame, State.setFrames] using this
  obtain ⟨mid, hmid⟩ := h.above
  have hfr : (U.setTop g).frames = (.java g :: mid) ++ below := by rw [State.frames_setTop' g h.top, hmid]; rfl
  have happ : ep_app (headSpec ws rm) y e.platform (U.calling g mk a) mk a (U.setTop g).frames := by
    refine ⟨h.running, by simpa [State.calling] using h.runnable, by simpa [State.calling] using h.alone, hn, ?_, hroom, ?_⟩
    · rw [State.frames_setTop' g h.top]
      simp [State.hears, hcg, hdg, Except.toOption]
    · rw [State.calling_eq h.top, Cond.before_setFrames]; exact h1
  have hcl : (U.setTop g).cur < (U.setTop g).threads.size := State.cur_lt_of_frames (hfr.trans rfl : (U.setTop g).frames = .java g :: (mid ++ below))
  obtain ⟨o, s₂, hsteps, -, hend, hq, L, hfe, hL⟩ := ep_callC hM p X.admits X.cas X.clock (acts := []) hfr hcl happ (hblind _ _ _ _ hp.2.2)
  rw [State.frames_setTop' g h.top] at hend
  have hfe : FrameEnd (U.calling g mk a) o s₂ L mc ms := hfe
  obtain ⟨⟨v, rfl⟩, hW₂, e2, q2, q3, q4, q5, q6⟩ := id hfe
  have e3 : s₂ = ({ (U.calling g mk a).setFrames s₂.frames with heap := s₂.heap, slotsUsed := s₂.slotsUsed } : State).setVm s₂.vm := by
    have : s₂ = ({ s₂ with vm := (U.calling g mk a).vm } : State).setVm s₂.vm := rfl
    rw [e2] at this
    exact this
  obtain ⟨c₂, i₂, len₂, hc₂, hd₂, hf₂⟩ := hend
  have hW' : U.WarmedH s₂.vm := hW₂
  have hcc : c₂ = c := by
    have h1 : s₂.code? g.method = U.code? g.method := by
      rw [State.code?_eq, State.code?_eq, hW'.alike.method?]
    exact Option.some.inj (hc₂.symm.trans (h1.trans h.code))
  subst hcc
  have hlen : len₂ = len := by rw [hdg] at hd₂; cases hd₂; rfl
  subst hlen
  obtain ⟨g₀, hg0⟩ := Option.isSome_iff_exists.mp h.top
  obtain ⟨r, hr⟩ := State.topJava?_eq_some.mp hg0
  have hs₂ : s₂ = (({ U with heap := s₂.heap, slotsUsed := s₂.slotsUsed } : State).setVm s₂.vm).setTop { g with pc := g.pc + len₂, stack := v.toList ++ g.stack } := by
    have hr' : (({ U with heap := s₂.heap, slotsUsed := s₂.slotsUsed } : State).setVm s₂.vm).frames = .java g₀ :: r := hr
    refine e3.trans ?_
    rw [hf₂, State.calling_eq h.top, State.setFrames_setFrames, State.setTop_of_frames _ hr', hr]
    rfl
  have hsame : U.sameButNew ({ U with heap := s₂.heap, slotsUsed := s₂.slotsUsed } : State) L mc ms := by
    refine ⟨?_, q2, q3, q4, q5, q6⟩
    obtain ⟨t, ht, -⟩ := State.frames_cons hr
    show ({ U with heap := s₂.heap, slotsUsed := s₂.slotsUsed } : State) = { U.setFrames U.frames with heap := s₂.heap, slotsUsed := s₂.slotsUsed }
    rw [State.setFrames_self ht]
  subst hg
  refine ⟨v, ⟨(({ U with heap := s₂.heap, slotsUsed := s₂.slotsUsed } : State).setVm s₂.vm), Ls ++ L, c0 + mc, s0 + ms⟩,
    ⟨X.admits, X.cas, X.clock, X.frames, X.room, X.hears, X.method, X.code, (X.here.setHeapUsed s₂.heap s₂.slotsUsed).setVm hW'.alike, X.tail, State.WarmedH.trans X.warmed hW', X.limits, X.bytes, X.same.trans (hsame.setVm s.vm)⟩,
    ⟨g, mk, s₂, L, rfl, rfl, hq, rfl, hL, rfl, rfl⟩, ?_⟩
  show Steps p.tables e below _ ((({ U with heap := s₂.heap, slotsUsed := s₂.slotsUsed } : State).setVm s₂.vm).setTop { g with pc := g.pc + len₂, stack := v.toList ++ g.stack })
  rw [← hs₂]
  exact hsteps
section EPC
variable {p : Program} {l : Launch} {e : Env} {R : Room} {s : State} {m : MethodId} {args : Array Value} {below : List Frame} {meth : Method} {c : Code} {H : Heap} {locs : List Loc} {cells slots : Nat}
/-- a call through an object: its class C selects the method y for the named one x, declared by 'owner' -/
theorem ep_runUC {x y : MethodName} {bytes cc : ByteArray} {maxL nL mc ms n index : Nat} {ret : Option FieldType} {rm : Room} {Pc : Array Value → State → Prop} {Qc : Array Value → State → Outcome → State → Prop} {free : Addr → Prop} {own C owner : String} {b : Addr} {As rest : List Value} {g : JFrame} {b0 : ByteArray} {m0 : Nat} {r0 : Option FieldType}
    (S : CallFix p m c cc nL s args lw_all own) (hM : MetC l y (ws_ y bytes maxL ret) rm Pc Qc mc ms free) (hrc : rm.cells = mc) (hrs : rm.slots = ms) (hR : rm.frames + 1 ≤ R.frames ∧ 8 + (maxL + 11) + rm.locals ≤ R.locals)
    (hlink : Cond.methodLink own index x ∈ lw_all) (hsame : Cond.sameMethod x.cls owner x.name x.desc ∈ lw_all) (hi0 : Cond.instanceMethod ⟨owner, x.name, x.desc⟩ ∈ lw_all) (hc0 : Cond.code ⟨owner, x.name, x.desc⟩ b0 m0 r0 ∈ lw_all) (hsel : Cond.selects C x y ∈ lw_all) (hinst : Cond.instanceMethod y ∈ lw_all) (hcode : Cond.code y bytes maxL ret ∈ lw_all)
    (hd : owner ≠ "java/lang/invoke/MethodHandle" ∧ owner ≠ "java/lang/invoke/VarHandle" ∧ (parseMethodDescriptor x.desc).map (fun d => d.parameters.length) = some n) (hp : PreV s H C b Pc As)
    (hg : g.method = m) (hn : As.length = n) (hsize : g.locals.size = nL) (hstack : g.stack = As.reverse ++ .ref b :: rest) (hW : 2 * g.monitorRoom + (rest.map fun v => v.category).sum ≤ 8) (hdg : decode cc g.pc = .ok (.invokevirtual index, 3)) (hf : cells + mc ≤ R.cells ∧ slots + ms ≤ R.slots) :
    va_Run p l e R s m args below meth c H locs cells slots mc ms g rest (Qc (Value.ref b :: As).toArray) (free) := by
  obtain ⟨hx, hb, hml, ho, hts⟩ := S
  have hK : Back l R p e below s args y 3 8 (PreOf R mc ms Pc) (PostOf Qc mc ms free) := ep_backC (bytes := bytes) (maxL := maxL) (ret := ret) hM hp.1 hrc hrs hR.1 hR.2 (pay_in hts (lw_meth hcode)) List.mem_cons_self
  obtain ⟨-, ⟨cellB, hcB, hoB, hclB⟩, hPc⟩ := hp
  intro T hT X
  obtain ⟨v, vm₁, ⟨U', l2, c2, s2⟩, hW₁, X', ⟨g', mk, t, L, e1, e2, hq, h1, hL, h2, h3⟩, st⟩ := va_callVU X hx (C := C) (owner := owner) (bytes := bytes) (maxL := maxL) (ret := ret) ho (hts _ hlink) (hts _ hsame) (va_Decl.of (hts _ hi0) (hts _ hc0)) ⟨hd.1, hd.2.1⟩ (hts _ hsel) (hts _ hinst) (hts _ hcode) hK (by rw [hT]; exact hcB) hoB hclB hg (hsize.trans hml.symm) (argsL := As) (rest := rest) (fun sig h => by
      have h2 := hd.2.2
      rw [h] at h2
      exact hn.trans (Option.some.inj h2).symm) hstack hW (by rw [hb]; exact hdg)
    (fun vm₁ hW₁ => ⟨hf.1, hf.2, hPc (T.setVm vm₁) hT hW₁⟩)
  dsimp only [Pt.U, Pt.locs, Pt.cells, Pt.slots] at X' e1 e2 h1 h2 h3 st
  subst h1; subst h2; subst h3
  exact ⟨v, (T.setVm vm₁).calling g' mk (Value.ref b :: As).toArray, t, U', L, hT, X', hL, e1, e2, hq, st⟩
/-- super.m(..): the superclass's own method y, named as x, on this -/
theorem ep_runSUC {x y : MethodName} {bytes cc : ByteArray} {maxL nL mc ms n index : Nat} {ret : Option FieldType} {rm : Room} {Pc : Array Value → State → Prop} {Qc : Array Value → State → Outcome → State → Prop} {free : Addr → Prop} {own C : String} {cC : ClassId} {b : Addr} {As rest : List Value} {g : JFrame}
    (hat : ClassAt s C cC) (S : CallFix p m c cc nL s args lw_all own) (hM : MetC l y (ws_ y bytes maxL ret) rm Pc Qc mc ms free) (hrc : rm.cells = mc) (hrs : rm.slots = ms) (hR : rm.frames + 1 ≤ R.frames ∧ 8 + (maxL + 11) + rm.locals ≤ R.locals)
    (hyx : y.name = x.name ∧ y.desc = x.desc) (hlink : Cond.methodLink own index x ∈ lw_all) (hsame : Cond.sameMethod x.cls y.cls x.name x.desc ∈ lw_all) (hsup : Cond.superclass own x.cls ∈ lw_all) (hsub : x.cls = y.cls ∨ Cond.superclass x.cls y.cls ∈ lw_all) (hinst : Cond.instanceMethod y ∈ lw_all) (hcode : Cond.code y bytes maxL ret ∈ lw_all)
    (hd : y.name ≠ "<init>" ∧ (parseMethodDescriptor y.desc).map (fun d => d.parameters.length) = some n) (hp : PreV s H C b Pc As)
    (hg : g.method = m) (hn : As.length = n) (hsize : g.locals.size = nL) (hstack : g.stack = As.reverse ++ .ref b :: rest) (hW : 2 * g.monitorRoom + (rest.map fun v => v.category).sum ≤ 8) (hdg : decode cc g.pc = .ok (.invokespecial index, 3)) (hf : cells + mc ≤ R.cells ∧ slots + ms ≤ R.slots) :
    va_Run p l e R s m args below meth c H locs cells slots mc ms g rest (Qc (Value.ref b :: As).toArray) (free) := by
  obtain ⟨hx, hb, hml, ho, hts⟩ := S
  have hK : Back l R p e below s args y 3 8 (PreOf R mc ms Pc) (PostOf Qc mc ms free) := ep_backC (bytes := bytes) (maxL := maxL) (ret := ret) hM hp.1 hrc hrs hR.1 hR.2 (pay_in hts (lw_meth hcode)) List.mem_cons_self
  obtain ⟨-, ⟨cellB, hcB, hoB, hclB⟩, hPc⟩ := hp
  obtain ⟨hfc, kB, hkB, -⟩ := hat
  cases hfc.symm.trans hclB
  obtain ⟨mk, methM, hnamed, hmethM, hstM, habM⟩ := Cond.instanceMethod_spec (hts _ hinst)
  obtain ⟨methM', cM, hmethM', -, -, -, -, -, -, hsigM⟩ := Cond.code_spec hnamed (hts _ hcode)
  cases hmethM.symm.trans hmethM'
  obtain ⟨ps, dk, kp, hps, hdk, hkp, hsuper, -, -, hnid⟩ := Cond.superclass_spec ho (hts _ hsup)
  have hn2 : s.methodNamed? ⟨y.cls, x.name, x.desc⟩ = some mk := by rw [← hyx.1, ← hyx.2]; exact hnamed
  have hsb : s.vm.isSubclass ps mk.cls = true := by
    rcases hsub with hs | hs
    · have hpm : ps = mk.cls := Option.some.inj (hps.symm.trans (by rw [hs]; exact findClass_of_methodNamed hnamed))
      rw [hpm]; simp [Vm.isSubclass, Vm.isSubclassAux]
    · obtain ⟨ps2, dk2, kp2, hps2, hdk2, hkp2, hsuper2, -, -, -⟩ := Cond.superclass_spec hps (hts _ hs)
      have hpm : ps2 = mk.cls := Option.some.inj (hps2.symm.trans (findClass_of_methodNamed hnamed))
      subst hpm
      unfold Vm.isSubclass
      have hsz : ps < s.vm.classes.size := (Array.getElem?_eq_some_iff.mp hdk2).1
      cases hz : s.vm.classes.size with
      | zero => exact absurd hsz (by rw [hz]; exact Nat.not_lt_zero _)
      | succ k => simp [Vm.isSubclassAux, hdk2, hsuper2]
  intro T hT X
  obtain ⟨vm₁, X₁, hstep₁⟩ := X.invokespecialUp hx ho (hts _ hlink) (hts _ hsame) hn2 hmethM hstM habM (by rw [← hyx.1]; exact hd.1) hdk hnid hps hsuper hsb (a := b) (cell := cellB) (by rw [hT]; exact hcB)
    (fun z h => by rw [h] at hoB; cases hoB) hkB (g := g) hg (argsL := As) (rest := rest) (by
      have h2 := hd.2
      rw [hsigM] at h2
      exact hn.trans (Option.some.inj h2).symm) hstack (by rw [hb]; exact hdg)
  obtain ⟨v, ⟨U', l2, c2, s2⟩, X', ⟨g', mk', t, L, e1, e2, hq, h1, hL, h2, h3⟩, hsteps⟩ := hK m meth c ⟨T.setVm vm₁, locs, cells, slots⟩ { g with stack := rest } (.invokespecial index) mk (Value.ref b :: As).toArray X₁ hg (hsize.trans hml.symm) (by rw [hb]; exact hdg) hW (X₁.named hnamed) ⟨hf.1, hf.2, hPc (T.setVm vm₁) hT X₁.warmed⟩
  dsimp only [Pt.U, Pt.locs, Pt.cells, Pt.slots] at X' e1 e2 h1 h2 h3 hsteps
  subst h1; subst h2; subst h3
  exact ⟨v, (T.setVm vm₁).calling g' mk' (Value.ref b :: As).toArray, t, U', L, hT, X', hL, e1, e2, hq, fun target h => hstep₁ _ (by rw [doInvoke_state]; exact hsteps.trans h)⟩
end EPC
