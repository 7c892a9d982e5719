/-! ===== rows: null or not, casts among arrays, indices out of range, negative sizes ===== -/
set_option maxRecDepth 100000
def nsp {α : Type} (q : Option Nat) (x : Option α) (f : Nat → Option α) : Option α := match q with
  | none => x
  | some r => f r
/-- the tag of an array of ints, shorts or bytes -/
def tg3 (h : Hp) (a : Nat) : Option Nat := match h.2 a with
  | some (.inl (t, _, _)) => if t < 3 then some t else none
  | _ => none
theorem tg3_s {h : Hp} {a t : Nat} (e : tg3 h a = some t) : t < 3 ∧ ∃ (n : Nat) (f : Nat → Int32), h.2 a = some (.inl (t, n, f)) := by
  unfold tg3 at e
  split at e
  · rename_i u n f hy
    split at e
    · rename_i hu
      cases e
      exact ⟨hu, n, f, hy⟩
    · cases e
  · cases e
def ckT (t : Nat) (h : Hp) (a : Nat) : Option Unit := if tg3 h a = some t then some () else none
theorem ckT_s {t : Nat} {h : Hp} {a : Nat} {u : Unit} (e : ckT t h a = some u) : tg3 h a = some t := by
  unfold ckT at e
  split at e
  · assumption
  · cases e
/-- is the index in range? -/
def aB (t : Nat) (h : Hp) (a : Nat) (i : Int32) : Option Bool := match h.2 a with
  | some (.inl (u, n, _)) => if u = t ∧ n < 2147483648 then some (decide (¬ i < 0 ∧ i.toNatClampNeg < n)) else none
  | _ => none
theorem aB_s {t : Nat} {h : Hp} {a : Nat} {i : Int32} {b : Bool} (e : aB t h a i = some b) : ∃ (n : Nat) (f : Nat → Int32), h.2 a = some (.inl (t, n, f)) ∧ n < 2147483648 ∧ b = decide (¬ i < 0 ∧ i.toNatClampNeg < n) := by
  unfold aB at e
  split at e
  · rename_i u n f hy
    split at e
    · rename_i hu
      obtain ⟨hu, hn⟩ := hu
      subst hu
      cases e
      exact ⟨n, f, hy, hn, rfl⟩
    · cases e
  · cases e
def ep_an (t : Nat) : String := match t with
  | 0 => "[I"
  | 1 => "[B"
  | _ => "[S"
theorem ep_anF {G : EG} {cl : List vw_C} {s : State} (hK : ep_K G cl s) {t : Nat} (ht : t < 3) : s.vm.findClass (ep_an t) = some (G.2.1 t) := by
  have h := (hK.2.1 t (by omega)).2
  match t, ht with
  | 0, _ => exact va_nm_int h
  | 1, _ => exact va_nm_byte h
  | 2, _ =>
    have e : "[" ++ FieldType.short.toString = "[S" := by decide +kernel
    show s.vm.findClass "[S" = _
    rw [← e]
    exact h
theorem ep_anN {G : EG} {cl : List vw_C} {s : State} (hK : ep_K G cl s) {t v : Nat} (ht : t < 3) (hv : v < 3) (hne : v ≠ t) : va_Nc (ep_an v) (ep_an t) s := by
  match t, v, ht, hv with
  | 0, 0, _, _ => exact absurd rfl hne
  | 1, 1, _, _ => exact absurd rfl hne
  | 2, 2, _, _ => exact absurd rfl hne
  | 0, 1, _, _ => exact hK.2.2.2.2.2.2 ("[B", "[I") (List.mem_of_getElem? (i := 1) rfl)
  | 0, 2, _, _ => exact hK.2.2.2.2.2.2 ("[S", "[I") (List.mem_of_getElem? (i := 3) rfl)
  | 1, 0, _, _ => exact hK.2.2.2.2.2.2 ("[I", "[B") (List.mem_of_getElem? (i := 4) rfl)
  | 1, 2, _, _ => exact hK.2.2.2.2.2.2 ("[S", "[B") (List.mem_of_getElem? (i := 2) rfl)
  | 2, 0, _, _ => exact hK.2.2.2.2.2.2 ("[I", "[S") (List.mem_of_getElem? (i := 5) rfl)
  | 2, 1, _, _ => exact hK.2.2.2.2.2.2 ("[B", "[S") (List.mem_of_getElem? (i := 0) rfl)
theorem ep_tab {p : Program} {l : Launch} {y : MethodName} {S : Spec} {cc : ByteArray} {maxL : Nat} {ret : Option FieldType} {hh : List (Nat × Nat × Nat × Nat)} {e : Env} {s : State} {m : MethodId} {args : Array Value} {below : List Frame} {meth : Method} {c : Code} {s₁ : State} (B : BodyLoose p l y S cc maxL ret e s m args below meth c s₁) (h : (Cond.codeWith y cc maxL ret hh).before args s = true) : c.exceptionTable.toList.map (fun h => (h.startPc, h.endPc, h.handlerPc, h.catchType)) = hh := by
  obtain ⟨m9, meth9, c9, hn9, h1, h2, h3, h4, h5, -⟩ := Cond.codeWith_spec h
  cases B.named.symm.trans hn9
  cases B.method.symm.trans h1
  cases (Stand.of_body B).code.symm.trans h2
  exact h5
section EPY
variable {p : Program} {l : Launch} {e : Env} {R : Room} {s : State} {m : MethodId} {args : Array Value} {below : List Frame} {meth : Method} {c : Code} {H : Heap} {locs : List Loc} {cells slots : Nat} {Q : State → Prop}
variable {cc : ByteArray} {pc : Nat} {ls : Array Slot} {rest : List Value} {G : EG} {cl : List vw_C} {a : Nat} {h : Hp} {own : String}
theorem ep_arrAt (hw : ep_W G cl h s H locs) {t n : Nat} {f : Nat → Int32} (ho : h.2 a = some (.inl (t, n, f))) : ∃ cell : Cell, H[a]? = some cell ∧ cell.vm.isStatics = false ∧ cell.cls = G.2.1 t ∧ cell = vp_cell (G.2.1 t) (n, .inl f) := ⟨_, (hw.1.2.2 a _ ho).1, rfl, rfl, rfl⟩
theorem ep_inst (t : Nat) (ht : t < 3) (hexec : p.tables.exec = Jvm.exec) (hb : c.code = cc) {index v : Nat} (hown : s.vm.findClass own = some m.cls) (hlink : (Cond.classLink own index (ep_an t)).before args s = true) (hK : ep_K G cl s) (hw : ep_W G cl h s H locs) (ev : tg3 h a = some v) (hdg : decode cc pc = .ok (.instanceof index, 3))
    (kk : W p l e R s m args below meth c H locs cells slots Q (F0 m (pc + 3) ls (.int (if v = t then iI 1 else iI 0) :: rest))) : W p l e R s m args below meth c H locs cells slots Q (F0 m pc ls (.ref a :: rest)) := by
  obtain ⟨hv, n, f, ho⟩ := tg3_s ev
  obtain ⟨cell, h1, h2, h3, -⟩ := ep_arrAt hw ho
  by_cases hvt : v = t
  · subst hvt
    rw [if_pos rfl] at kk
    intro T hT X
    obtain ⟨vm', X', st⟩ := X.instanceofYes hexec hown hlink (by rw [hT]; exact h1) h2 (ep_anF hK hv) (by rw [h3]; exact va_asg _ _) (g := F0 m pc ls (.ref a :: rest)) rfl rfl (by rw [hb]; exact hdg)
    obtain ⟨t, a1, b1⟩ := kk (T.setVm vm') hT X'
    exact ⟨t, st t a1, b1⟩
  · rw [if_neg hvt] at kk
    exact va_instNo hexec hb hown hlink (ep_anN hK ht hv hvt) ⟨cell, h1, h2, by rw [h3]; exact ep_anF hK hv⟩ hdg kk
theorem ep_castA (t : Nat) (hexec : p.tables.exec = Jvm.exec) (hb : c.code = cc) {index : Nat} (hown : s.vm.findClass own = some m.cls) (hlink : (Cond.classLink own index (ep_an t)).before args s = true) (hK : ep_K G cl s) (hw : ep_W G cl h s H locs) (ev : tg3 h a = some t) (hdg : decode cc pc = .ok (.checkcast index, 3))
    (kk : W p l e R s m args below meth c H locs cells slots Q (F0 m (pc + 3) ls (.ref a :: rest))) : W p l e R s m args below meth c H locs cells slots Q (F0 m pc ls (.ref a :: rest)) := by
  obtain ⟨hv, n, f, ho⟩ := tg3_s ev
  obtain ⟨cell, h1, h2, h3, -⟩ := ep_arrAt hw ho
  intro T hT X
  obtain ⟨vm', X', st⟩ := X.checkcastYes hexec hown hlink (by rw [hT]; exact h1) h2 (ep_anF hK hv) (by rw [h3]; exact va_asg _ _) (g := F0 m pc ls (.ref a :: rest)) rfl rfl (by rw [hb]; exact hdg)
  obtain ⟨t, a1, b1⟩ := kk (T.setVm vm') hT X'
  exact ⟨t, st t a1, b1⟩
/-- an index out of range -/
theorem ep_vmIdx {txt : Int32 → Nat → String} (hmod : ∀ (j : Int32) (n : Nat), (txt j n == notModelled) = false) (hby : ∀ (j : Int32) (n : Nat), n < 2147483648 → (stringBytes (stringToUtf16 (txt j n))).size ≤ 212) (t : Nat) (ht : t < 3) {g : JFrame} {j : Int32} (hexec : p.tables.exec = Jvm.exec) (hfl : l.flags = flags0) (hts : ∀ w ∈ lw_all, w.before args s = true) (hK : ep_K G cl s) (hZ : ep_Z G s s.heap) (hw : ep_W G cl h s H locs) (ev : aB t h a j = some false) (hg : g.method = m) (hsize : g.locals.size = c.maxLocals)
    (hR : 7 < R.frames ∧ 10300 ≤ R.locals) (hroom : 2 * g.monitorRoom + (rest.map fun v => v.category).sum ≤ 8) (hf : cells + 3 ≤ R.cells ∧ slots + 222 ≤ R.slots)
    (h1 : ∀ (T : State) (cell : Cell), Stand p l e R s m args below meth c T locs cells slots → T.heap[a]? = some cell → s.isArrayOf cell (ep_ty t) → (j < 0 ∨ cell.slots.size ≤ j.toNatClampNeg) → ∀ target, Steps p.tables e below ((T.setTop { g with stack := rest }).pushFrame (.throwNew "java/lang/ArrayIndexOutOfBoundsException" (some (txt j cell.slots.size)) none)) target → Steps p.tables e below (T.setTop g) target) :
    ep_Vm p l e R s m args below meth c H locs cells slots g rest 2 2 3 222 := by
  obtain ⟨n, f, ho, hn, hd⟩ := aB_s ev
  have hout : j < 0 ∨ n ≤ j.toNatClampNeg := by
    have := of_decide_eq_false hd.symm
    by_cases hj : j < 0
    · exact Or.inl hj
    · exact Or.inr (Nat.le_of_not_lt fun z => this ⟨hj, z⟩)
  obtain ⟨cell, q1, q2, q3, q4⟩ := ep_arrAt hw ho
  have hsz : cell.slots.size = n := by rw [q4]; show (arrV _ _ _).slots.size = n; rw [arrV_size]
  have harr : s.isArrayOf cell (ep_ty t) := by rw [q4]; exact (hK.2.1 t (by omega)).1 n (fun j => .int (f j))
  refine ep_vmText (kind := 2) (names := ["java/lang/IndexOutOfBoundsException", "java/lang/RuntimeException", "java/lang/Exception"]) (text := txt j n) (n := 212) hexec hfl hts hK hZ hw hg hsize (by decide +kernel) ep_okB (hmod j n) (hby j n hn) (by decide) (by decide) hR hroom hf (fun T hT X => ⟨T.vm, X, fun target ht => ?_⟩)
  refine h1 T cell X (by rw [hT]; exact q1) harr (by rw [hsz]; exact hout) target ?_
  rw [hsz]
  exact ht
/-- a negative size -/
theorem ep_vmNeg {g : JFrame} {j : Int32} (hj : j < 0) (hexec : p.tables.exec = Jvm.exec) (hb : c.code = cc) (hfl : l.flags = flags0) (hts : ∀ w ∈ lw_all, w.before args s = true) (hK : ep_K G cl s) (hZ : ep_Z G s s.heap) (hw : ep_W G cl h s H locs) (hg : g.method = m) (hsize : g.locals.size = c.maxLocals)
    (hR : 7 < R.frames ∧ 10300 ≤ R.locals) (hroom : 2 * g.monitorRoom + (rest.map fun v => v.category).sum ≤ 8) (hf : cells + 3 ≤ R.cells ∧ slots + 54 ≤ R.slots) {atype : ArrayType} (hstack : g.stack = .int j :: rest) (hdg : decode cc g.pc = .ok (.newarray atype, 2)) :
    ep_Vm p l e R s m args below meth c H locs cells slots g rest 4 2 3 54 :=
  ep_vmText (kind := 4) (names := ["java/lang/RuntimeException", "java/lang/Exception"]) (text := toString j) (n := 44) hexec hfl hts hK hZ hw hg hsize (by decide +kernel) ep_okS (negative_text_modelled hj) (negative_text_bytes j) (by decide) (by decide) hR hroom hf (fun T _ X => ⟨T.vm, X, fun target ht => X.newarrayNegative hexec hg hj hstack (by rw [hb]; exact hdg) target ht⟩)
/-- the words of a failed cast among arrays of primitives -/
def ep_cw (b : Bool) (v t : Nat) : String := "class " ++ ep_an v ++ " cannot be cast to class " ++ ep_an t ++ " (" ++ (ep_an v ++ " and " ++ ep_an t ++ " are in " ++ ((if b then "module java.base" else "unnamed module") ++ " of loader " ++ "'bootstrap'")) ++ ")"
theorem ep_cwOk (b : Bool) {v t : Nat} (hv : v < 3) (ht : t < 3) : (ep_cw b v t == notModelled) = false ∧ (stringBytes (stringToUtf16 (ep_cw b v t))).size ≤ 200 := by
  match v, t, hv, ht with
  | 0, 0, _, _ => cases b <;> decide +kernel
  | 0, 1, _, _ => cases b <;> decide +kernel
  | 0, 2, _, _ => cases b <;> decide +kernel
  | 1, 0, _, _ => cases b <;> decide +kernel
  | 1, 1, _, _ => cases b <;> decide +kernel
  | 1, 2, _, _ => cases b <;> decide +kernel
  | 2, 0, _, _ => cases b <;> decide +kernel
  | 2, 1, _, _ => cases b <;> decide +kernel
  | 2, 2, _, _ => cases b <;> decide +kernel
theorem ep_prim0 (t : Nat) : ((withoutBrackets (ep_an t)).length == 1) = true := by
  match t with
  | 0 => decide +kernel
  | 1 => decide +kernel
  | _ + 2 => exact (by decide +kernel : ((withoutBrackets "[S").length == 1) = true)
theorem ep_prim {vm : Vm} {k : Class} {t : Nat} (hn : k.name = ep_an t) (hk : ∃ cm ty, k.kind = .array cm ty) : k.ofPrimitives = true := by
  obtain ⟨cm, ty, hk⟩ := hk
  unfold Class.ofPrimitives
  rw [hk, hn]
  exact ep_prim0 t
theorem ep_shown0 (t : Nat) : dotted (ep_an t) = ep_an t := by
  match t with
  | 0 => decide +kernel
  | 1 => decide +kernel
  | _ + 2 => exact (by decide +kernel : dotted "[S" = "[S")
theorem ep_shown {k : Class} {t : Nat} (hn : k.name = ep_an t) (hh : k.hidden = none) : k.shown = ep_an t := by
  unfold Class.shown
  rw [hh, hn]
  exact ep_shown0 t
theorem ep_cmsg {vm : Vm} {ks kt : Class} {v t : Nat} (hs : ks.name = ep_an v ∧ ks.hidden = none ∧ ks.loader = none ∧ ∃ cm ty, ks.kind = .array cm ty) (ht : kt.name = ep_an t ∧ kt.hidden = none ∧ kt.loader = none ∧ ∃ cm ty, kt.kind = .array cm ty) : checkcast.message vm ks kt = ep_cw (vm.modules.find? (·.name == "java.base")).isSome v t := by
  have s1 := ep_shown hs.1 hs.2.1
  have s2 := ep_shown ht.1 ht.2.1
  have m1 : vm.moduleOf ks = vm.modules.find? (·.name == "java.base") := by unfold Vm.moduleOf; rw [ep_prim (vm := vm) hs.1 hs.2.2.2]; rfl
  have m2 : vm.moduleOf kt = vm.modules.find? (·.name == "java.base") := by unfold Vm.moduleOf; rw [ep_prim (vm := vm) ht.1 ht.2.2.2]; rfl
  have hsame : vm.sameModule ks kt = true := by
    unfold Vm.sameModule
    rw [m1, m2]
    cases hm : vm.modules.find? (·.name == "java.base") with
    | none => simp [hs.2.2.1, ht.2.2.1]
    | some x => simp
  have hhome : vm.home ks = (if (vm.modules.find? (·.name == "java.base")).isSome then "module java.base" else "unnamed module") ++ " of loader " ++ "'bootstrap'" := by
    unfold Vm.home
    rw [m1, hs.2.2.1]
    cases hm : vm.modules.find? (·.name == "java.base") with
    | none => rfl
    | some x =>
      have hx := List.find?_some hm
      have hx' : x.name = "java.base" := by simpa using hx
      simp only [hx', Option.isSome_some, if_true]
      rfl
  unfold checkcast.message Vm.homes ep_cw
  rw [hsame, s1, s2, hhome]
  simp only [if_true]
  rfl
theorem ep_fc {vm : Vm} {name : String} {c : ClassId} (h : vm.findClass name = some c) : ∃ k, vm.classes[c]? = some k ∧ k.name = name ∧ k.hidden = none ∧ k.loader = none := by
  obtain ⟨hlt, hp, _⟩ := Array.findIdx?_eq_some_iff_getElem.mp h
  refine ⟨vm.classes[c], by simp [hlt], ?_⟩
  simp only [Bool.and_eq_true, beq_iff_eq, Option.isNone_iff_eq_none] at hp
  exact ⟨hp.1.1.1, hp.1.1.2, hp.2⟩
theorem ep_fcA {G : EG} {cl : List vw_C} {s : State} {vm' : Vm} (hal : s.vm.Alike vm') (hK : ep_K G cl s) {t : Nat} (ht : t < 3) : ∃ k, s.vm.classes[G.2.1 t]? = some k ∧ ∃ k', vm'.classes[G.2.1 t]? = some k' ∧ k'.name = ep_an t ∧ k'.hidden = none ∧ k'.loader = none ∧ ∃ cm ty, k'.kind = .array cm ty := by
  obtain ⟨k, h1, h2, h3, h4⟩ := ep_fc (ep_anF hK ht)
  obtain ⟨k', h5, h6⟩ := hal.2.2 _ _ h1
  obtain ⟨-, k2, h7, cm, h8⟩ := (hK.2.1 t (by omega)).1 0 (fun _ => .null)
  have h7' : s.vm.classes[G.2.1 t]? = some k2 := h7
  cases h1.symm.trans h7'
  exact ⟨k, h1, k', h5, by rw [h6]; exact h2, by rw [h6]; exact h3, by rw [h6]; exact h4, cm, _, by rw [h6]; exact h8⟩
theorem ep_castNo {T : State} (X : Stand p l e R s m args below meth c T locs cells slots) (hexec : p.tables.exec = Jvm.exec)
    {name : String} {index : Nat} (hown : s.vm.findClass own = some m.cls) (hlink : (Cond.classLink own index name).before args s = true)
    {cell : Cell} {cT : ClassId} {ks : Class} (hcell : T.heap[a]? = some cell) (hobj : cell.vm.isStatics = false) (hks : s.vm.classes[cell.cls]? = some ks) (hcT : s.vm.findClass name = some cT) (hasg : s.vm.assignable cell.cls cT = false) {text : String}
    (hmsg : ∀ (vm' : Vm) (k1 k2 : Class), s.vm.Alike vm' → vm'.classes[cell.cls]? = some k1 → vm'.classes[cT]? = some k2 → checkcast.message vm' k1 k2 = text)
    {g : JFrame} (hg : g.method = m) (hstack : g.stack = .ref a :: rest) (hdg : decode c.code g.pc = .ok (.checkcast index, 3)) :
    ∃ vm', Stand p l e R s m args below meth c (T.setVm vm') locs cells slots ∧
      ∀ target, Steps p.tables e below (((T.setVm vm').setTop g).pushFrame (.throwNew "java/lang/ClassCastException" (some text) none)) target → Steps p.tables e below (T.setTop g) target := by
  have hpl : e.platform.magicAccessors = ({} : Platform).magicAccessors := by rw [X.admits.platform]
  obtain ⟨c', hc', hcl⟩ := Cond.classLink_spec hown hlink e.platform hpl
  cases hcT.symm.trans hc'
  obtain ⟨dk, _, _, kt, hd, _, _, _, _, hkt, _, hopn⟩ := hcl.here
  have hcl₀ := X.warmed.classLinks hcl
  have hW' : s.WarmedH (T.vm.noted m.cls index (.cls cT)) := X.warmed.noted hd hopn (State.rightAt_cls hcl)
  obtain ⟨ks', hks', -⟩ := hW'.alike.2.2 _ _ hks
  obtain ⟨kt', hkt', -⟩ := hW'.alike.2.2 _ _ hkt
  have hm := hmsg _ ks' kt' hW'.alike hks' hkt'
  refine ⟨_, X.noted hW', fun target hrest => ?_⟩
  subst hg
  jvm_step X.here [hexec, hdg, checkcast.wp_cold (e := e) (s := T) (f := g) X.here.top hstack (resolveClass_links e.toSetting hcl₀) hcl₀.ready,
    checkcast.wp_ready (e := e) (s := T.setVm (T.vm.noted g.method.cls index (.cls cT))) (f := g) X.here.top hcl₀.ready hstack]
  refine ⟨cell, hcell, VmData.noStatics_of hobj, ks', hks', kt', hkt', ?_⟩
  have h1 : (T.vm.noted g.method.cls index (Resolved.cls cT)).assignable cell.cls cT = false := by rw [hW'.alike.assignable]; exact hasg
  simp only [h1, hm]
  exact hrest
/-- a cast that fails -/
theorem ep_vmCast (t : Nat) (ht : t < 3) {v : Nat} (hexec : p.tables.exec = Jvm.exec) (hb : c.code = cc) (hfl : l.flags = flags0) (hts : ∀ w ∈ lw_all, w.before args s = true) {index : Nat} (hown : s.vm.findClass own = some m.cls) (hlink : (Cond.classLink own index (ep_an t)).before args s = true) (hK : ep_K G cl s) (hZ : ep_Z G s s.heap) (hw : ep_W G cl h s H locs) (ev : tg3 h a = some v) (hne : v ≠ t) (hsize : ls.size = c.maxLocals)
    (hR : 7 < R.frames ∧ 10300 ≤ R.locals) (hroom : ((Value.ref a :: rest).map fun v => v.category).sum ≤ 8) (hf : cells + 3 ≤ R.cells ∧ slots + 210 ≤ R.slots) (hdg : decode cc pc = .ok (.checkcast index, 3)) :
    ep_Vm p l e R s m args below meth c H locs cells slots (F0 m pc ls (.ref a :: rest)) (.ref a :: rest) 3 2 3 210 := by
  obtain ⟨hv, n, f, ho⟩ := tg3_s ev
  obtain ⟨cell, h1, h2, h3, -⟩ := ep_arrAt hw ho
  have hok := ep_cwOk (s.vm.modules.find? (·.name == "java.base")).isSome hv ht
  have hmsg : ∀ (vm' : Vm) (k1 k2 : Class), s.vm.Alike vm' → vm'.classes[cell.cls]? = some k1 → vm'.classes[G.2.1 t]? = some k2 → checkcast.message vm' k1 k2 = ep_cw (s.vm.modules.find? (·.name == "java.base")).isSome v t := by
    intro vm' k1 k2 hal q1 q2
    rw [h3] at q1
    obtain ⟨-, -, kS, hkS, hS⟩ := ep_fcA hal hK hv
    obtain ⟨-, -, kT, hkT, hT2⟩ := ep_fcA hal hK ht
    cases q1.symm.trans hkS
    cases q2.symm.trans hkT
    have hmod : vm'.modules = s.vm.modules := by rw [hal.1]
    rw [← hmod]
    exact ep_cmsg hS hT2
  generalize ep_cw (s.vm.modules.find? (·.name == "java.base")).isSome v t = text at hok hmsg
  obtain ⟨c0, t0, f1, f2, f3⟩ := ep_anN hK ht hv hne
  cases f1.symm.trans (ep_anF hK hv)
  cases f2.symm.trans (ep_anF hK ht)
  obtain ⟨kS, hkS, -⟩ := Vm.findClass_spec (ep_anF hK hv)
  refine ep_vmText (kind := 3) (names := ["java/lang/RuntimeException", "java/lang/Exception"]) (text := text) (n := 200) hexec hfl hts hK hZ hw rfl hsize (by decide +kernel) ep_okC hok.1 hok.2 (by decide) (by decide) hR (lv_room hroom) hf (fun T hT X => ?_)
  exact ep_castNo X hexec hown hlink (by rw [hT]; exact h1) h2 (by rw [h3]; exact hkS) (ep_anF hK ht) (by rw [h3]; exact f3) hmsg (g := F0 m pc ls (.ref a :: rest)) rfl rfl (by rw [hb]; exact hdg)
/-- a call, through its object, of a method with handlers -/
theorem ep_runVW {y : MethodName} {bytes : ByteArray} {maxL nL mc ms n index : Nat} {ret : Option FieldType} {hh : List (Nat × Nat × Nat × Nat)} {rm : Room} {Pc : Array Value → State → Prop} {Qc : Array Value → State → Outcome → State → Prop} {free : Addr → Prop} {b : Addr} {As : List Value} {g : JFrame}
    (S : CallFix p m c cc nL s args lw_all own) (hM : Met l y (wsW_ y bytes maxL ret hh) rm Pc Qc mc ms free) (hrc : rm.cells = mc) (hrs : rm.slots = ms) (hR : rm.frames + 1 ≤ R.frames ∧ 8 + (maxL + 11) + rm.locals ≤ R.locals)
    (hlink : Cond.methodLink own index y ∈ lw_all) (hinst : Cond.instanceMethod y ∈ lw_all) (hsel : Cond.selects y.cls y y ∈ lw_all) (hini : Cond.initialized y.cls ∈ lw_all) (hcode : Cond.codeWith y bytes maxL ret hh ∈ lw_all)
    (hd : y.cls ≠ "java/lang/invoke/MethodHandle" ∧ y.cls ≠ "java/lang/invoke/VarHandle" ∧ (parseMethodDescriptor y.desc).map (fun d => d.parameters.length) = some n) (hp : PreV s H y.cls b Pc As)
    (hg : g.method = m) (hn : As.length = n) (hsize : g.locals.size = nL) (hstack : g.stack = As.reverse ++ .ref b :: rest) (hW : 2 * g.monitorRoom + (rest.map fun v => v.category).sum ≤ 8) (hdg : decode cc g.pc = .ok (.invokevirtual index, 3)) (hf : cells + mc ≤ R.cells ∧ slots + ms ≤ R.slots) :
    va_Run p l e R s m args below meth c H locs cells slots mc ms g rest (Qc (Value.ref b :: As).toArray) free := by
  obtain ⟨hx, hb, hml, ho, hts⟩ := S
  have hK : Back l R p e below s args y 3 8 (PreOf R mc ms Pc) (PostOf Qc mc ms free) := va_backW (hh := hh) (bytes := bytes) (maxL := maxL) (ret := ret) hM hp.1 hrc hrs hR.1 hR.2 (pay_in hts (lw_methW hcode)) List.mem_cons_self (fun a' U hW => word_at hW (Or.inl (by first | rfl | simp [Cond.onTables, Cond.keeps, Cond.steady])) (hts _ hini))
  obtain ⟨-, ⟨cellB, hcB, hoB, hclB⟩, hPc⟩ := hp
  intro T hT X
  obtain ⟨mk, methM, hnamed, hmethM, hstM, habM⟩ := Cond.instanceMethod_spec (hts _ hinst)
  obtain ⟨mk', methM', cM, hnamed', hmethM', -, -, -, -, -, -, hsigM⟩ := Cond.codeWith_spec (hts _ hcode)
  cases hnamed.symm.trans hnamed'
  cases hmethM.symm.trans hmethM'
  obtain ⟨c2, r2, m2, q1, q2, q3, q4, kP, hkP, hkPi⟩ := Cond.selects_spec (hts _ hsel)
  cases hclB.symm.trans q1
  cases (State.methodFound?_of_named hnamed ⟨hd.1, hd.2.1⟩).symm.trans q2
  cases hnamed.symm.trans q3
  have hselP : selectMethod e.platform s.vm cellB.cls mk = .method mk := by rw [Launch.admits_selectMethod X.admits]; exact q4
  have hlen : As.length = methM.sig.parameters.length := by
    have h2 := hd.2.2
    rw [hsigM] at h2
    exact hn.trans (Option.some.inj h2).symm
  obtain ⟨vm₁, X₁, hstep₁⟩ := X.invokevirtual hx ho (hts _ hlink) hnamed hmethM hstM hkP hkPi ⟨hd.1, hd.2.1⟩ (a := b) (cell := cellB) (by rw [hT]; exact hcB)
    (fun z h => by rw [h] at hoB; cases hoB) hselP hmethM habM hkP hkPi (g := g) hg (argsL := As) (rest := rest) hlen hstack (by rw [hb]; exact hdg)
  obtain ⟨v, ⟨U', l2, c2, s2⟩, X', ⟨g', mk', t, L, e1, e2, hq, h1, hL, h2, h3⟩, hsteps⟩ := hK m meth c ⟨T.setVm vm₁, locs, cells, slots⟩ { g with stack := rest } (.invokevirtual index) mk (Value.ref b :: As).toArray X₁ hg (hsize.trans hml.symm) (by rw [hb]; exact hdg) hW (X₁.named hnamed) ⟨hf.1, hf.2, hPc (T.setVm vm₁) hT X₁.warmed⟩
  dsimp only [Pt.U, Pt.locs, Pt.cells, Pt.slots] at X' e1 e2 h1 h2 h3 hsteps
  subst h1; subst h2; subst h3
  exact ⟨v, (T.setVm vm₁).calling g' mk' (Value.ref b :: As).toArray, t, U', L, hT, X', hL, e1, e2, hq, fun target h => hstep₁ _ fun acts => by rw [doInvoke_state]; exact hsteps.trans h⟩
theorem ep_nul_baload {i : Int32} (hexec : p.tables.exec = Jvm.exec) (hb : c.code = cc) (hfl : l.flags = flags0) (hts : ∀ w ∈ lw_all, w.before args s = true) (hK : ep_K G cl s) (hZ : ep_Z G s s.heap) (hw : ep_W G cl h s H locs) (hsize : ls.size = c.maxLocals) (hR : 7 < R.frames ∧ 10300 ≤ R.locals) (hf : cells + 1 ≤ R.cells ∧ slots + 8 ≤ R.slots) (hdg : decode cc pc = .ok (.baload, 1)) : ep_Vm p l e R s m args below meth c H locs cells slots (F0 m pc ls [.int i, .null]) [] 1 0 1 8 :=
  ep_vmNull hexec hfl hts hK hZ hw rfl hsize hR (lv_room (by decide)) hf (fun T hT X => X.baloadNull hexec (g := F0 m pc ls [.int i, .null]) rfl rfl (by rw [hb]; exact hdg))
theorem ep_idx_baload {i : Int32} (hexec : p.tables.exec = Jvm.exec) (hb : c.code = cc) (hfl : l.flags = flags0) (hts : ∀ w ∈ lw_all, w.before args s = true) (hK : ep_K G cl s) (hZ : ep_Z G s s.heap) (hw : ep_W G cl h s H locs) (ev : aB 1 h a i = some false) (hsize : ls.size = c.maxLocals) (hR : 7 < R.frames ∧ 10300 ≤ R.locals) (hf : cells + 3 ≤ R.cells ∧ slots + 222 ≤ R.slots) (hdg : decode cc pc = .ok (.baload, 1)) : ep_Vm p l e R s m args below meth c H locs cells slots (F0 m pc ls [.int i, .ref a]) [] 2 2 3 222 :=
  ep_vmIdx index_text_modelled (fun j n hn => index_text_bytes j hn) 1 (by decide) hexec hfl hts hK hZ hw ev rfl hsize hR (lv_room (by decide)) hf (fun T cell X hc ha ho => X.baloadOut hexec hc ha ho (g := F0 m pc ls [.int i, .ref a]) rfl rfl (by rw [hb]; exact hdg))
theorem ep_nul_saload {i : Int32} (hexec : p.tables.exec = Jvm.exec) (hb : c.code = cc) (hfl : l.flags = flags0) (hts : ∀ w ∈ lw_all, w.before args s = true) (hK : ep_K G cl s) (hZ : ep_Z G s s.heap) (hw : ep_W G cl h s H locs) (hsize : ls.size = c.maxLocals) (hR : 7 < R.frames ∧ 10300 ≤ R.locals) (hf : cells + 1 ≤ R.cells ∧ slots + 8 ≤ R.slots) (hdg : decode cc pc = .ok (.saload, 1)) : ep_Vm p l e R s m args below meth c H locs cells slots (F0 m pc ls [.int i, .null]) [] 1 0 1 8 :=
  ep_vmNull hexec hfl hts hK hZ hw rfl hsize hR (lv_room (by decide)) hf (fun T hT X => X.saloadNull hexec (g := F0 m pc ls [.int i, .null]) rfl rfl (by rw [hb]; exact hdg))
theorem ep_idx_saload {i : Int32} (hexec : p.tables.exec = Jvm.exec) (hb : c.code = cc) (hfl : l.flags = flags0) (hts : ∀ w ∈ lw_all, w.before args s = true) (hK : ep_K G cl s) (hZ : ep_Z G s s.heap) (hw : ep_W G cl h s H locs) (ev : aB 2 h a i = some false) (hsize : ls.size = c.maxLocals) (hR : 7 < R.frames ∧ 10300 ≤ R.locals) (hf : cells + 3 ≤ R.cells ∧ slots + 222 ≤ R.slots) (hdg : decode cc pc = .ok (.saload, 1)) : ep_Vm p l e R s m args below meth c H locs cells slots (F0 m pc ls [.int i, .ref a]) [] 2 2 3 222 :=
  ep_vmIdx index_text_modelled (fun j n hn => index_text_bytes j hn) 2 (by decide) hexec hfl hts hK hZ hw ev rfl hsize hR (lv_room (by decide)) hf (fun T cell X hc ha ho => X.saloadOut hexec hc ha ho (g := F0 m pc ls [.int i, .ref a]) rfl rfl (by rw [hb]; exact hdg))
theorem ep_nul_iaload {i : Int32} (hexec : p.tables.exec = Jvm.exec) (hb : c.code = cc) (hfl : l.flags = flags0) (hts : ∀ w ∈ lw_all, w.before args s = true) (hK : ep_K G cl s) (hZ : ep_Z G s s.heap) (hw : ep_W G cl h s H locs) (hsize : ls.size = c.maxLocals) (hR : 7 < R.frames ∧ 10300 ≤ R.locals) (hf : cells + 1 ≤ R.cells ∧ slots + 8 ≤ R.slots) (hdg : decode cc pc = .ok (.iaload, 1)) : ep_Vm p l e R s m args below meth c H locs cells slots (F0 m pc ls [.int i, .null]) [] 1 0 1 8 :=
  ep_vmNull hexec hfl hts hK hZ hw rfl hsize hR (lv_room (by decide)) hf (fun T hT X => X.ialoadNull hexec (g := F0 m pc ls [.int i, .null]) rfl rfl (by rw [hb]; exact hdg))
theorem ep_idx_iaload {i : Int32} (hexec : p.tables.exec = Jvm.exec) (hb : c.code = cc) (hfl : l.flags = flags0) (hts : ∀ w ∈ lw_all, w.before args s = true) (hK : ep_K G cl s) (hZ : ep_Z G s s.heap) (hw : ep_W G cl h s H locs) (ev : aB 0 h a i = some false) (hsize : ls.size = c.maxLocals) (hR : 7 < R.frames ∧ 10300 ≤ R.locals) (hf : cells + 3 ≤ R.cells ∧ slots + 222 ≤ R.slots) (hdg : decode cc pc = .ok (.iaload, 1)) : ep_Vm p l e R s m args below meth c H locs cells slots (F0 m pc ls [.int i, .ref a]) [] 2 2 3 222 :=
  ep_vmIdx index_text_modelled (fun j n hn => index_text_bytes j hn) 0 (by decide) hexec hfl hts hK hZ hw ev rfl hsize hR (lv_room (by decide)) hf (fun T cell X hc ha ho => X.ialoadOut hexec hc ha ho (g := F0 m pc ls [.int i, .ref a]) rfl rfl (by rw [hb]; exact hdg))
theorem ep_nul_bastore {x i : Int32} (hexec : p.tables.exec = Jvm.exec) (hb : c.code = cc) (hfl : l.flags = flags0) (hts : ∀ w ∈ lw_all, w.before args s = true) (hK : ep_K G cl s) (hZ : ep_Z G s s.heap) (hw : ep_W G cl h s H locs) (hsize : ls.size = c.maxLocals) (hR : 7 < R.frames ∧ 10300 ≤ R.locals) (hf : cells + 1 ≤ R.cells ∧ slots + 8 ≤ R.slots) (hdg : decode cc pc = .ok (.bastore, 1)) : ep_Vm p l e R s m args below meth c H locs cells slots (F0 m pc ls [.int x, .int i, .null]) [] 1 0 1 8 :=
  ep_vmNull hexec hfl hts hK hZ hw rfl hsize hR (lv_room (by decide)) hf (fun T hT X => X.bastoreNull hexec (g := F0 m pc ls [.int x, .int i, .null]) rfl rfl (by rw [hb]; exact hdg))
theorem ep_idx_bastore {x i : Int32} (hexec : p.tables.exec = Jvm.exec) (hb : c.code = cc) (hfl : l.flags = flags0) (hts : ∀ w ∈ lw_all, w.before args s = true) (hK : ep_K G cl s) (hZ : ep_Z G s s.heap) (hw : ep_W G cl h s H locs) (ev : aB 1 h a i = some false) (hsize : ls.size = c.maxLocals) (hR : 7 < R.frames ∧ 10300 ≤ R.locals) (hf : cells + 3 ≤ R.cells ∧ slots + 222 ≤ R.slots) (hdg : decode cc pc = .ok (.bastore, 1)) : ep_Vm p l e R s m args below meth c H locs cells slots (F0 m pc ls [.int x, .int i, .ref a]) [] 2 2 3 222 :=
  ep_vmIdx index_text_modelled (fun j n hn => index_text_bytes j hn) 1 (by decide) hexec hfl hts hK hZ hw ev rfl hsize hR (lv_room (by decide)) hf (fun T cell X hc ha ho => X.bastoreOut hexec hc ha ho (g := F0 m pc ls [.int x, .int i, .ref a]) rfl rfl (by rw [hb]; exact hdg))
theorem ep_nul_sastore {x i : Int32} (hexec : p.tables.exec = Jvm.exec) (hb : c.code = cc) (hfl : l.flags = flags0) (hts : ∀ w ∈ lw_all, w.before args s = true) (hK : ep_K G cl s) (hZ : ep_Z G s s.heap) (hw : ep_W G cl h s H locs) (hsize : ls.size = c.maxLocals) (hR : 7 < R.frames ∧ 10300 ≤ R.locals) (hf : cells + 1 ≤ R.cells ∧ slots + 8 ≤ R.slots) (hdg : decode cc pc = .ok (.sastore, 1)) : ep_Vm p l e R s m args below meth c H locs cells slots (F0 m pc ls [.int x, .int i, .null]) [] 1 0 1 8 :=
  ep_vmNull hexec hfl hts hK hZ hw rfl hsize hR (lv_room (by decide)) hf (fun T hT X => X.sastoreNull hexec (g := F0 m pc ls [.int x, .int i, .null]) rfl rfl (by rw [hb]; exact hdg))
theorem ep_idx_sastore {x i : Int32} (hexec : p.tables.exec = Jvm.exec) (hb : c.code = cc) (hfl : l.flags = flags0) (hts : ∀ w ∈ lw_all, w.before args s = true) (hK : ep_K G cl s) (hZ : ep_Z G s s.heap) (hw : ep_W G cl h s H locs) (ev : aB 2 h a i = some false) (hsize : ls.size = c.maxLocals) (hR : 7 < R.frames ∧ 10300 ≤ R.locals) (hf : cells + 3 ≤ R.cells ∧ slots + 222 ≤ R.slots) (hdg : decode cc pc = .ok (.sastore, 1)) : ep_Vm p l e R s m args below meth c H locs cells slots (F0 m pc ls [.int x, .int i, .ref a]) [] 2 2 3 222 :=
  ep_vmIdx index_text_modelled (fun j n hn => index_text_bytes j hn) 2 (by decide) hexec hfl hts hK hZ hw ev rfl hsize hR (lv_room (by decide)) hf (fun T cell X hc ha ho => X.sastoreOut hexec hc ha ho (g := F0 m pc ls [.int x, .int i, .ref a]) rfl rfl (by rw [hb]; exact hdg))
theorem ep_nul_iastore {x i : Int32} (hexec : p.tables.exec = Jvm.exec) (hb : c.code = cc) (hfl : l.flags = flags0) (hts : ∀ w ∈ lw_all, w.before args s = true) (hK : ep_K G cl s) (hZ : ep_Z G s s.heap) (hw : ep_W G cl h s H locs) (hsize : ls.size = c.maxLocals) (hR : 7 < R.frames ∧ 10300 ≤ R.locals) (hf : cells + 1 ≤ R.cells ∧ slots + 8 ≤ R.slots) (hdg : decode cc pc = .ok (.iastore, 1)) : ep_Vm p l e R s m args below meth c H locs cells slots (F0 m pc ls [.int x, .int i, .null]) [] 1 0 1 8 :=
  ep_vmNull hexec hfl hts hK hZ hw rfl hsize hR (lv_room (by decide)) hf (fun T hT X => X.iastoreNull hexec (g := F0 m pc ls [.int x, .int i, .null]) rfl rfl (by rw [hb]; exact hdg))
theorem ep_idx_iastore {x i : Int32} (hexec : p.tables.exec = Jvm.exec) (hb : c.code = cc) (hfl : l.flags = flags0) (hts : ∀ w ∈ lw_all, w.before args s = true) (hK : ep_K G cl s) (hZ : ep_Z G s s.heap) (hw : ep_W G cl h s H locs) (ev : aB 0 h a i = some false) (hsize : ls.size = c.maxLocals) (hR : 7 < R.frames ∧ 10300 ≤ R.locals) (hf : cells + 3 ≤ R.cells ∧ slots + 222 ≤ R.slots) (hdg : decode cc pc = .ok (.iastore, 1)) : ep_Vm p l e R s m args below meth c H locs cells slots (F0 m pc ls [.int x, .int i, .ref a]) [] 2 2 3 222 :=
  ep_vmIdx index_text_modelled (fun j n hn => index_text_bytes j hn) 0 (by decide) hexec hfl hts hK hZ hw ev rfl hsize hR (lv_room (by decide)) hf (fun T cell X hc ha ho => X.iastoreOut hexec hc ha ho (g := F0 m pc ls [.int x, .int i, .ref a]) rfl rfl (by rw [hb]; exact hdg))
theorem ep_negA {i : Int32} (hi : i < 0) (hexec : p.tables.exec = Jvm.exec) (hb : c.code = cc) (hfl : l.flags = flags0) (hts : ∀ w ∈ lw_all, w.before args s = true) (hK : ep_K G cl s) (hZ : ep_Z G s s.heap) (hw : ep_W G cl h s H locs) (hsize : ls.size = c.maxLocals) (hR : 7 < R.frames ∧ 10300 ≤ R.locals) (hf : cells + 3 ≤ R.cells ∧ slots + 54 ≤ R.slots) {atype : ArrayType} (hdg : decode cc pc = .ok (.newarray atype, 2)) : ep_Vm p l e R s m args below meth c H locs cells slots (F0 m pc ls [.int i]) [] 4 2 3 54 :=
  ep_vmNeg hi hexec hb hfl hts hK hZ hw rfl hsize hR (lv_room (by decide)) hf rfl hdg
theorem ep_retaW {v : Nat} {res : Nat × Hp} {ty : FieldType} (hexec : p.tables.exec = Jvm.exec) (hb : c.code = cc) (hr : meth.sig.returnType = some ty) (hty : (∃ n, ty = .object n) ∨ (∃ u, ty = .array u)) (hlocks : meth.locks = false) (hw : ep_W G cl h s H locs) (hf : some (v, h) = some res) (hdg : decode cc pc = .ok (.areturn, 1)) : W p l e R s m args below meth c H locs cells slots (MQ below (ep_Qr G cl res.2 res.1) args s cells slots (ep_A G)) (F0 m pc ls [.ref v]) := by
  cases hf; exact W.aret hexec hb hr hty (Or.inr ⟨_, rfl⟩) (fun t ht _ => ⟨⟨(), v, rfl, trivial, rfl, by show ep_R G cl h t.heap; rw [ht]; exact hw.1⟩, hw.2.F ht⟩) hw.2.2.2 hdg hlocks
theorem ep_lk {x : Int32} {a0 b0 d0 : Int} : lookupswitch.offset [(0, a0), (1, b0)] d0 x.toInt = if x = iI 0 then a0 else if x = iI 1 then b0 else d0 := by
  have h : ∀ k : Nat, k < 2 → (((k : Int) = x.toInt) ↔ x = iI k) := by
    intro k hk
    have e : (iI k).toInt = k := by
      match k, hk with
      | 0, _ => rfl
      | 1, _ => rfl
    constructor
    · intro h; exact Int32.toInt_inj.mp (by rw [e]; exact h.symm)
    · intro h; rw [h, e]
  rw [lookupswitch.offset_cons, lookupswitch.offset_cons, lookupswitch.offset_nil]
  have h0 : ((0 : Int) = x.toInt) ↔ x = iI 0 := h 0 (by decide)
  have h1 : ((1 : Int) = x.toInt) ↔ x = iI 1 := h 1 (by decide)
  by_cases c0 : x = iI 0
  · rw [if_pos c0, if_pos (h0.mpr c0)]
  · rw [if_neg c0, if_neg (fun z => c0 (h0.mp z))]
    by_cases c1 : x = iI 1
    · rw [if_pos c1, if_pos (h1.mpr c1)]
    · rw [if_neg c1, if_neg (fun z => c1 (h1.mp z))]
end EPY
