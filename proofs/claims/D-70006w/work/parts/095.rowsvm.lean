/-! ===== rows of what the machine throws; handlers ===== -/
set_option maxRecDepth 100000
def ep_sp : List Cond := [.isRef (.static Bundle.tN "UNASSIGNED_STACK" Bundle.steD), .isRef (.static Bundle.tN "SUPPRESSED_SENTINEL" Bundle.listD), .laysStatic Bundle.tN "UNASSIGNED_STACK" Bundle.steD, .laysStatic Bundle.tN "SUPPRESSED_SENTINEL" Bundle.listD]
def ep_okA (L : List Cond) : Prop := ∀ a ∈ L, (a ∈ lw_tbl ∧ (goodWord a || ep_nk a) = true) ∨ a ∈ ep_sp
set_option maxHeartbeats 4000000 in
theorem ep_okN : ep_okA (Bundle.npeArmAtoms 8) := by unfold ep_okA; decide +kernel
set_option maxHeartbeats 4000000 in
theorem ep_okB : ep_okA (Bundle.messageArmAtoms "java/lang/ArrayIndexOutOfBoundsException" ["java/lang/IndexOutOfBoundsException", "java/lang/RuntimeException", "java/lang/Exception"]) := by unfold ep_okA; decide +kernel
set_option maxHeartbeats 4000000 in
theorem ep_okC : ep_okA (Bundle.messageArmAtoms "java/lang/ClassCastException" ["java/lang/RuntimeException", "java/lang/Exception"]) := by unfold ep_okA; decide +kernel
set_option maxHeartbeats 4000000 in
theorem ep_okS : ep_okA (Bundle.messageArmAtoms "java/lang/NegativeArraySizeException" ["java/lang/RuntimeException", "java/lang/Exception"]) := by unfold ep_okA; decide +kernel
theorem ep_atoms {G : EG} {cl : List vw_C} {s : State} {args : Array Value} {L : List Cond} (hL : ep_okA L) (hts : ∀ w ∈ lw_all, w.before args s = true) (hK : ep_K G cl s) (hZ : ep_Z G s s.heap) : ∀ a ∈ L, a.before args s = true := by
  intro a ha
  rcases hL a ha with ⟨h1, h2⟩ | h
  · rcases Bool.or_eq_true_iff.mp h2 with g | g
    · exact hts a (lw_g h1 g)
    · exact hK.nestU h1 g
  · simp only [ep_sp, List.mem_cons, List.not_mem_nil, or_false] at h
    rcases h with rfl | rfl | rfl | rfl
    · exact ep_isRef hZ.1.2.2.2.2.1
    · exact ep_isRef hZ.1.2.2.2.2.2.1
    · exact hZ.1.2.2.2.2.2.2.1.use
    · exact hZ.1.2.2.2.2.2.2.2.use
theorem ep_kS_of {G : EG} {cl : List vw_C} {h : Hp} {s : State} {H : Heap} {locs : List Loc} (hZ : ep_Z G s s.heap) (hw : ep_W G cl h s H locs) : ep_kS s H := by
  intro c0 k a h1 h2 h3
  obtain ⟨c, k', i, f, a', cell, q1, q2, q3, q4, q5, q6, q7, q8, q9, q10⟩ := hZ.1.2.2.2.2.2.2.1
  cases Option.some.inj (h1.symm.trans q1)
  cases Option.some.inj (h2.symm.trans (State.fieldFound?_spec q2).1)
  cases Option.some.inj (h3.symm.trans q4)
  exact hw.2.2.1 a (Array.getElem?_eq_some_iff.mp q6).1 q10
theorem ep_htr {l : Launch} {e : Env} (ha : l.admits e) (hfl : l.flags = flags0) : e.platform.stackTraces = false := by
  have h : e.platform.stackTraces = l.stackTraces := by rw [ha.platform]
  rw [h]
  unfold Launch.stackTraces
  rw [hfl]
  decide +kernel
/-- the heap behind a thrown exception of the machine's -/
def thH (k : Nat) (h : Hp) : Hp := (h.1 + k, h.2)
theorem ep_W.thrown {G : EG} {cl : List vw_C} {h : Hp} {s : State} {H H1 : Heap} {locs L : List Loc} {k : Nat} (hw : ep_W G cl h s H locs) (hL : ∀ q ∈ L, H.size ≤ q.base) (hz : H1.size = H.size + k) (hq : ∀ q : Nat, q < H.size → H1[q]? = H[q]?) : ep_W G cl (thH k h) s H1 (locs ++ L) := by
  have hs := hw.1.1
  have hb := hw.1.2.1
  refine ⟨⟨by rw [hz, hs]; rfl, Nat.le_trans hb (Nat.le_add_right _ _), fun a o ha => ?_⟩, Nat.le_trans hw.2.1 (by omega), fun q h1 h2 => ?_, fun q hm => ?_⟩
  · have h1 := hw.1.2.2 a o ha
    exact ⟨h1.1.kept (hq a h1.1.lt), h1.2⟩
  · rw [hq q (Nat.lt_of_lt_of_le h1 hw.2.1)]
    exact hw.2.2.1 q h1 h2
  · rcases List.mem_append.mp hm with h1 | h1
    · exact hw.2.2.2 q h1
    · exact Nat.le_trans hb (by rw [← hs]; exact hL q h1)
section EPW
variable {p : Program} {l : Launch} {e : Env} {R : Room} {s : State} {m : MethodId} {args : Array Value} {below : List Frame} {meth : Method} {c : Code} {H : Heap} {locs : List Loc} {cells slots : Nat} {Q : State → Prop}
variable {cc : ByteArray} {pc : Nat} {ls : Array Slot} {rest : List Value} {G : EG} {cl : List vw_C} {a : Nat} {h : Hp} {ρ : Type} {res : Thr}
/-- the instruction at pc throws: as ep_RunT, for the machine's own exceptions -/
def ep_Vm (p : Program) (l : Launch) (e : Env) (R : Room) (s : State) (m : MethodId) (args : Array Value) (below : List Frame) (meth : Method) (c : Code) (H : Heap) (locs : List Loc) (cells slots : Nat) (g : JFrame) (rest : List Value) (kind d k n : Nat) : Prop :=
  ∀ T : State, T.heap = H → Stand p l e R s m args below meth c T locs cells slots → ∃ (T' : State) (L : List Loc), Stand p l e R s m args below meth c T' (locs ++ L) (cells + k) (slots + n) ∧ (∀ q ∈ L, H.size ≤ q.base) ∧ T'.heap.size = H.size + k ∧ (∀ q : Nat, q < H.size → T'.heap[q]? = H[q]?) ∧
    ep_Ex kind (H.size + d) T' ∧ ∀ target, Steps p.tables e below ((T'.setTop { g with stack := rest }).pushFrame (.throwing (H.size + d))) target → Steps p.tables e below (T.setTop g) target
theorem ep_Vm.of {g : JFrame} {kind d k n : Nat} {note : Frame}
    (h1 : ∀ T : State, T.heap = H → Stand p l e R s m args below meth c T locs cells slots → ∃ vm', Stand p l e R s m args below meth c (T.setVm vm') locs cells slots ∧ ∀ target, Steps p.tables e below (((T.setVm vm').setTop { g with stack := rest }).pushFrame note) target → Steps p.tables e below (T.setTop g) target)
    (h2 : ∀ T : State, T.heap = H → Stand p l e R s m args below meth c T locs cells slots → ep_VT p l e R s m args below meth c T locs cells slots { g with stack := rest } note (ep_xn kind) d k n) :
    ep_Vm p l e R s m args below meth c H locs cells slots g rest kind d k n := by
  intro T hT X
  obtain ⟨vm', X1, st1⟩ := h1 T hT X
  obtain ⟨U, L, X2, q1, q2, q3, ⟨cell, q4, q5, q6⟩, st2⟩ := h2 (T.setVm vm') hT X1
  have e1 : (T.setVm vm').heap = H := hT
  rw [e1] at q1 q2 q3 q4 st2
  exact ⟨U, L, X2, q1, q2, q3, ⟨cell, q4, q5, by rw [X2.warmed.alike.findClass]; exact q6⟩, fun target ht => st1 _ (st2 _ ht)⟩
/-- a null reference: NullPointerException -/
theorem ep_vmNull {g : JFrame} (hexec : p.tables.exec = Jvm.exec) (hfl : l.flags = flags0) (hts : ∀ w ∈ lw_all, w.before args s = true) (hK : ep_K G cl s) (hZ : ep_Z G s s.heap) (hw : ep_W G cl h s H locs) (hg : g.method = m) (hsize : g.locals.size = c.maxLocals)
    (hR : 7 < R.frames ∧ 10300 ≤ R.locals) (hroom : 2 * g.monitorRoom + (rest.map fun v => v.category).sum ≤ 8) (hf : cells + 1 ≤ R.cells ∧ slots + 8 ≤ R.slots)
    (h1 : ∀ T : State, T.heap = H → Stand p l e R s m args below meth c T locs cells slots → ∀ target, Steps p.tables e below ((T.setTop { g with stack := rest }).pushFrame (.throwNew "java/lang/NullPointerException" none none)) target → Steps p.tables e below (T.setTop g) target) :
    ep_Vm p l e R s m args below meth c H locs cells slots g rest 1 0 1 8 := by
  refine ep_Vm.of (note := .throwNew "java/lang/NullPointerException" none none) (fun T hT X => ⟨T.vm, X, h1 T hT X⟩) (fun T hT X => ?_)
  exact ep_npeAt X hexec (ep_htr X.admits hfl) (ep_atoms ep_okN hts hK hZ) (by rw [hT]; exact ep_kS_of hZ hw) hg hsize hR.1 (by show 2 * g.monitorRoom + (rest.map fun v => v.category).sum + 10240 ≤ _; omega) hf.1 hf.2
/-- an exception with a text -/
theorem ep_vmText {g : JFrame} {kind : Nat} {names : List String} {text : String} {n : Nat} (hexec : p.tables.exec = Jvm.exec) (hfl : l.flags = flags0) (hts : ∀ w ∈ lw_all, w.before args s = true) (hK : ep_K G cl s) (hZ : ep_Z G s s.heap) (hw : ep_W G cl h s H locs) (hg : g.method = m) (hsize : g.locals.size = c.maxLocals)
    (hfit : Bundle.fit (ep_xn kind) = true ∧ (∀ n ∈ names, Bundle.fit n = true) ∧ ((ep_xn kind) == "java/lang/StackOverflowError") = false ∧ ((ep_xn kind) == "java/lang/OutOfMemoryError") = false) (hok : ep_okA (Bundle.messageArmAtoms (ep_xn kind) names)) (htext : (text == notModelled) = false) (hbytes : (stringBytes (stringToUtf16 text)).size ≤ n) (hn : n ≤ 1000) (hnm : names.length ≤ 3)
    (hR : 7 < R.frames ∧ 10300 ≤ R.locals) (hroom : 2 * g.monitorRoom + (rest.map fun v => v.category).sum ≤ 8) (hf : cells + 3 ≤ R.cells ∧ slots + (n + 10) ≤ R.slots)
    (h1 : ∀ T : State, T.heap = H → Stand p l e R s m args below meth c T locs cells slots → ∃ vm', Stand p l e R s m args below meth c (T.setVm vm') locs cells slots ∧ ∀ target, Steps p.tables e below (((T.setVm vm').setTop { g with stack := rest }).pushFrame (.throwNew (ep_xn kind) (some text) none)) target → Steps p.tables e below (T.setTop g) target) :
    ep_Vm p l e R s m args below meth c H locs cells slots g rest kind 2 3 (n + 10) := by
  refine ep_Vm.of (note := .throwNew (ep_xn kind) (some text) none) h1 (fun T hT X => ?_)
  exact ep_msgAt X hexec (ep_htr X.admits hfl) hfit.1 hfit.2.1 hfit.2.2.1 hfit.2.2.2 (ep_atoms hok hts hK hZ) (by rw [hT]; exact ep_kS_of hZ hw) htext hbytes hn hg hsize (by omega) (by show 2 * g.monitorRoom + (rest.map fun v => v.category).sum + 10240 ≤ _; omega) (by omega) hf.1 hf.2
/-- it leaves the method -/
theorem ep_vmOut {st0 : List Value} {kind d k n : Nat} (hno : c.exceptionTable.toList = []) (hlocks : meth.locks = false) (hr : ep_Vm p l e R s m args below meth c H locs cells slots (F0 m pc ls st0) rest kind d k n) (hw : ep_W G cl h s H locs) (hf : some (Sum.inl (kind, h.1 + d, thH k h) : Thr ⊕ ρ) = some (.inl res)) :
    W p l e R s m args below meth c H locs cells slots (MQT below (ep_Qt G cl res) args s (cells + k) (slots + n) (ep_A G)) (F0 m pc ls st0) := by
  cases hf
  intro T hT X
  obtain ⟨T', L, X', hL, hz, hq, hE, st⟩ := hr T hT X
  have hs : H.size = h.1 := hw.1.1
  rw [hs] at hE st
  obtain ⟨a1, a2, a3, a4, a5⟩ := X'.leaveThrown (h.1 + d) (g := { F0 m pc ls st0 with stack := rest }) rfl rfl rfl (fun z hz => by rw [hno] at hz; cases hz) hlocks
  have hw' := hw.thrown hL hz hq
  refine ⟨_, st _ a1, .threw (h.1 + d), a2, a3, ⟨rfl, hw'.1, ⟨hw'.2.1, hw'.2.2.1⟩, ?_⟩, locs ++ L, ⟨⟨_, rfl⟩, a4, a5⟩, hw'.2.2.2⟩
  obtain ⟨cell, q1, q2, q3⟩ := hE
  exact ⟨cell, q1, q2, q3⟩
end EPW
