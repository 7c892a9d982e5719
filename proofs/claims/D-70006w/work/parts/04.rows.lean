/-! ===== what is known of the machine all through a run, and the rows over the abstract heap ===== -/
set_option maxRecDepth 100000
/-- the words that don't ride in the lists -/
def ep_nk (w : Cond) : Bool := match w with
  | .fieldLinkNest .. => true
  | .methodLinkNest .. => true
  | .castable .. => true
  | .declares .. => true
  | _ => false
def ep_nw : List Cond := lw_tbl.filter ep_nk
theorem ep_nw_of {w : Cond} (h : w ∈ lw_tbl) (g : ep_nk w = true) : w ∈ ep_nw := List.mem_filter.mpr ⟨h, g⟩
theorem ep_nw_warm {w : Cond} (h : ep_nk w = true) {s U : State} (hW : s.WarmedH U.vm) (hZ : va_Nw w s) : va_Nw w U := by
  cases w <;> first | exact va_Nw.warmF hW hZ | exact va_Nw.warmM hW hZ | exact va_Nw.warmC hW hZ | exact va_Nw.warmD hW hZ | cases h
theorem ep_nw_tab {w : Cond} (h : ep_nk w = true) : w.onTables = true := by
  cases w <;> first | rfl | cases h
/-- pairs of classes that can't be cast -/
def ep_nc : List (String × String) := [("[B", "[S"), ("[B", "[I"), ("[S", "[B"), ("[S", "[I"), ("[I", "[B"), ("[I", "[S"), ("java/lang/ArrayIndexOutOfBoundsException", "java/lang/NullPointerException"), ("java/lang/ArrayIndexOutOfBoundsException", "java/lang/ClassCastException"), ("java/lang/ClassCastException", "java/lang/NullPointerException")]
def ep_K (G : EG) (cl : List vw_C) (U : State) : Prop := (∀ (c : Nat) (q : vw_C), cl[c]? = some q → u_Kn U q.1 q.2.1 q.2.2 (G.1.1 c) (G.1.2 c)) ∧ (∀ t : Nat, t < 12 → ArrOfT U (G.2.1 t) (ep_ty t) ∧ va_RA U (G.2.1 t) (ep_ty t)) ∧ (∀ w ∈ ep_nw, va_Nw w U) ∧ (va_AO "EchoPens$Order" U ∧ va_AO "EchoPens$Image" U ∧ va_AO "EchoPens$Sheet" U) ∧ ((Cond.arrayOver (.array .byte)).before #[] U = true ∧ (Cond.arrayOver (.array .int)).before #[] U = true ∧ ∀ q ∈ ep_nc, va_Nc q.1 q.2 U)
theorem ep_ao_moved {t : FieldType} {u U : State} (hvm : u.vm = U.vm) (h : (Cond.arrayOver t).before #[] u = true) : (Cond.arrayOver t).before #[] U = true := by
  unfold Cond.before Cond.holds at h ⊢
  simp only [Cond.value] at h ⊢
  rw [← hvm]
  exact h
theorem ep_aoA_moved {t : FieldType} {u U : State} (hvm : u.vm.Alike U.vm) (h : (Cond.arrayOver (.array t)).before #[] u = true) : (Cond.arrayOver (.array t)).before #[] U = true := by
  have hs : ∃ comp c k, u.vm.findClass (FieldType.array t).toString = some comp ∧ (u.vm.classes.findIdx? fun (x : Class) => match x.kind with | .array component _ => component == comp | _ => false) = some c ∧ u.vm.classes[c]? = some k ∧ k.kind = .array comp (.array t) ∧ u.vm.findClass ("[" ++ (FieldType.array t).toString) = some c := by
    unfold Cond.before Cond.holds at h
    simp only [Cond.value, beq_iff_eq] at h
    cases hc : u.vm.findClass (FieldType.array t).toString with
    | none => simp [hc] at h
    | some comp =>
      simp only [hc, Option.bind_some, Option.bind_eq_some_iff, Option.map_eq_some_iff] at h
      obtain ⟨c, hi, k, hk, hb⟩ := h
      obtain ⟨hlt, hp, -⟩ := Array.findIdx?_eq_some_iff_getElem.mp hi
      have hkk : u.vm.classes[c] = k := (Array.getElem?_eq_some_iff.mp hk).2
      rw [hkk] at hp
      cases hkind : k.kind with
      | array component ty =>
        rw [hkind] at hb hp
        simp at hb hp
        exact ⟨comp, c, k, rfl, hi, hk, by rw [hkind, hp, hb.1], hb.2⟩
      | _ => rw [hkind] at hb; simp at hb
  obtain ⟨comp, c, k, h1, h2, h3, h4, h5⟩ := hs
  obtain ⟨k', hk', he⟩ := hvm.2.2 _ _ h3
  have hi : (U.vm.classes.findIdx? fun (x : Class) => match x.kind with | .array component _ => component == comp | _ => false) = some c := by
    have e1 := va_idx_bare U.vm comp
    have e2 := va_idx_bare u.vm comp
    first | rw [hvm.bare_eq] at e1 | rw [← hvm.bare_eq] at e1
    exact e1.symm.trans (e2.trans h2)
  have hkind : k'.kind = .array comp (.array t) := by rw [he]; exact h4
  have f1 : U.vm.findClass (FieldType.array t).toString = some comp := by rw [hvm.findClass]; exact h1
  have f2 : U.vm.findClass ("[" ++ (FieldType.array t).toString) = some c := by rw [hvm.findClass]; exact h5
  unfold Cond.before Cond.holds
  simp only [Cond.value]
  rw [f1, Option.bind_some]
  refine (congrArg (fun o : Option Nat => (o.bind (fun c => (U.vm.classes[c]?).map fun (k : Class) => match k.kind with | .array _ ty => decide (ty = FieldType.array t) && decide (U.vm.findClass ("[" ++ (FieldType.array t).toString) = some c) | _ => false) == some true)) hi).trans ?_
  simp [hk', hkind, f2]
theorem ep_K.warm {G : EG} {cl : List vw_C} {s U : State} (hW : s.WarmedH U.vm) (h : ep_K G cl s) : ep_K G cl U := by
  have hvm := hW.alike
  exact ⟨fun c q hq => u_Kn_moved hvm (h.1 c q hq), fun t ht => ⟨arrOfT_moved hvm (h.2.1 t ht).1, (h.2.1 t ht).2.moved hvm⟩, fun w hw => ep_nw_warm (List.mem_filter.mp hw).2 hW (h.2.2.1 w hw), ⟨h.2.2.2.1.1.moved hvm, h.2.2.2.1.2.1.moved hvm, h.2.2.2.1.2.2.moved hvm⟩, ep_aoA_moved hvm h.2.2.2.2.1, ep_aoA_moved hvm h.2.2.2.2.2.1, fun q hq => (h.2.2.2.2.2.2 q hq).moved hvm⟩
theorem ep_K.same {G : EG} {cl : List vw_C} {u U : State} (he : u.vm = U.vm) (h : ep_K G cl u) : ep_K G cl U := by
  have hvm : u.vm.Alike U.vm := by rw [he]; exact Vm.Alike.refl _
  exact ⟨fun c q hq => u_Kn_moved hvm (h.1 c q hq), fun t ht => ⟨arrOfT_moved hvm (h.2.1 t ht).1, (h.2.1 t ht).2.moved hvm⟩, fun w hw => va_Nw.same (ep_nw_tab (List.mem_filter.mp hw).2) he (h.2.2.1 w hw), ⟨h.2.2.2.1.1.moved hvm, h.2.2.2.1.2.1.moved hvm, h.2.2.2.1.2.2.moved hvm⟩, ep_aoA_moved hvm h.2.2.2.2.1, ep_aoA_moved hvm h.2.2.2.2.2.1, fun q hq => (h.2.2.2.2.2.2 q hq).moved hvm⟩
/-- a nest mate's word, where it is used -/
theorem ep_K.nest {G : EG} {cl : List vw_C} {s : State} (h : ep_K G cl s) {w : Cond} (hw : w ∈ lw_tbl) (g : ep_nk w = true) : va_Nw w s := h.2.2.1 w (ep_nw_of hw g)
theorem ep_K.nestU {G : EG} {cl : List vw_C} {s : State} (h : ep_K G cl s) {w : Cond} (hw : w ∈ lw_tbl) (g : ep_nk w = true) {args : Array Value} : w.before args s = true := va_Nw.use (ep_nw_tab g) (h.nest hw g)
theorem ep_K.va {G : EG} {cl : List vw_C} {s : State} (h : ep_K G cl s) (t : Nat) (ht : t < 12) : va_K G.1 cl [(G.2.1 t, ep_ty t)] s := by
  refine ⟨h.1, fun k q hk => ?_⟩
  have hz : k < 1 := (List.getElem?_eq_some_iff.mp hk).1
  rw [show k = 0 by omega] at hk
  cases hk
  exact h.2.1 t ht
/-- the String constants: "aeiou", and the six names -/
def ep_byt : List (List Int32) := [[97, 101, 105, 111, 117], [112, 108, 97, 105, 110], [116, 119, 105, 110], [114, 117, 110, 116], [119, 105, 108, 100], [112, 101, 110], [111, 114, 100, 101, 114]]
def ep_len : List Nat := [5, 5, 4, 4, 4, 3, 5]
/-- the breeds' classes, by their places in BREEDS -/
def ep_bn (k : Nat) : String := match k with
  | 0 => "EchoPens$Plain"
  | 1 => "EchoPens$Twin"
  | 2 => "EchoPens$Runt"
  | _ => "EchoPens$Wild"
/-- objects that were there before: Strings, the two static arrays, the breeds -/
def ep_Zs (G : EG) (U : State) (H : Heap) : Prop := vk_S 7 ep_len ep_byt (fun k => G.2.2.2 (10 + k)) (fun k => G.2.2.2 (20 + k)) (ep_A G) U H ∧ va_T (.object "java/lang/String") (G.2.2.2 1) 6 (fun j => .ref (G.2.2.2 (11 + j))) (ep_A G) U H ∧ va_T (.object "EchoPens$Plain") (G.2.2.2 0) 4 (fun j => .ref (G.2.2.2 (2 + j))) (ep_A G) U H ∧ ∀ k, k < 4 → va_O (ep_bn k) (G.2.2.2 (2 + k)) (ep_A G) U H
theorem ep_Zs.moved {G : EG} {u U : State} {H : Heap} (hvm : u.vm.Alike U.vm) (h : ep_Zs G u H) : ep_Zs G U H := ⟨h.1.moved hvm, h.2.1.moved hvm, h.2.2.1.moved hvm, fun k hk => (h.2.2.2 k hk).moved hvm⟩
theorem ep_Zs.kept {G : EG} {U : State} {H H1 : Heap} (h : ep_Zs G U H) (hq : ∀ a : Nat, a < H.size → ¬ ep_A G a → H1[a]? = H[a]?) : ep_Zs G U H1 := ⟨h.1.kept hq, h.2.1.kept hq, h.2.2.1.kept hq, fun k hk => (h.2.2.2 k hk).kept hq⟩
/-- the places where the program names "aeiou" -/
def ep_Zr (G : EG) (U : State) : Prop := vk_R "EchoPens" 176 "aeiou" (G.2.2.2 10) U ∧ vk_R "EchoPens$Farm" 85 "aeiou" (G.2.2.2 10) U ∧ vk_R "EchoPens$Reader" 96 "aeiou" (G.2.2.2 10) U
/-- a static field and its cell, that the machine never moves -/
def ep_Ls (C n d : String) (A : Nat → Prop) (U : State) (H : Heap) : Prop := ∃ (c : ClassId) (k : Class) (i : Nat) (f : Field) (a : Nat) (cell : Cell), U.vm.findClass C = some c ∧ U.fieldFound? C n d = some (c, k, i, f) ∧ f.isStatic = true ∧ k.statics = some a ∧ k.staticTypes[f.slot]? = some f.type ∧ H[a]? = some cell ∧ cell.vm.isStatics = true ∧ cell.cls = c ∧ f.slot < cell.slots.size ∧ ¬ A a
theorem ep_Ls.of {args : Array Value} {s : State} {C n d : String} {A : Nat → Prop} (h : (Cond.laysStatic C n d).before args s = true) (hA : ∀ a : Nat, a < s.heap.size → ¬ A a) : ep_Ls C n d A s s.heap := by
  obtain ⟨c, k, i, f, a, cell, hc, hi, hst, ha, hcell, hs, hcls, hlt, hty⟩ := Cond.laysStatic_spec h
  exact ⟨c, k, i, f, a, cell, hc, hi, hst, ha, hty, hcell, hs, hcls, hlt, hA a (Array.getElem?_eq_some_iff.mp hcell).1⟩
theorem ep_Ls.moved {C n d : String} {A : Nat → Prop} {u U : State} {H : Heap} (hvm : u.vm.Alike U.vm) (h : ep_Ls C n d A u H) : ep_Ls C n d A U H := by
  obtain ⟨c, k, i, f, a, cell, hc, hi, h3, h4, h5, h6⟩ := h
  obtain ⟨k', hi', he⟩ := State.fieldFound?_setVm hvm hi
  exact ⟨c, k', i, f, a, cell, by rw [hvm.findClass]; exact hc, hi', h3, by rw [he]; exact h4, by rw [he]; exact h5, h6⟩
theorem ep_Ls.kept {C n d : String} {A : Nat → Prop} {U : State} {H H1 : Heap} (h : ep_Ls C n d A U H) (hq : ∀ a : Nat, a < H.size → ¬ A a → H1[a]? = H[a]?) : ep_Ls C n d A U H1 := by
  obtain ⟨c, k, i, f, a, cell, hc, hi, h3, h4, h5, h6, h7, h8, h9, h10⟩ := h
  exact ⟨c, k, i, f, a, cell, hc, hi, h3, h4, h5, by rw [hq a (Array.getElem?_eq_some_iff.mp h6).1 h10]; exact h6, h7, h8, h9, h10⟩
theorem ep_Ls.use {C n d : String} {A : Nat → Prop} {U : State} (h : ep_Ls C n d A U U.heap) {args : Array Value} : (Cond.laysStatic C n d).before args U = true := by
  obtain ⟨c, k, i, f, a, cell, hc, hi, h3, h4, h5, h6, h7, h8, h9, h10⟩ := h
  simp [Cond.before, Cond.holds, Cond.value, hc, hi, h3, h4, h5, h6, h7, h8, h9]
theorem ep_isRef {C n d : String} {A : Nat → Prop} {U : State} (h : va_Zq C n d A U U.heap) {args : Array Value} : (Cond.isRef (.static C n d)).before args U = true := by
  rcases h with ⟨cf, kf, fi, f, a, cell, h1, h2, h3, h4, h5, h6, h7, h8⟩ | ⟨t, cf, kf, fi, f, a, cell, h1, h2, h3, h4, h5, h6, h7, h8⟩ <;>
    simp [Cond.before, Cond.holds, Cond.value, Term.eval, State.fieldNamed?, h1, h2, h4, h5, h6, h7]
def ep_Zt (G : EG) (U : State) (H : Heap) : Prop := va_Z "EchoPens" "BREEDS" "[LEchoPens$Plain;" (.ref (G.2.2.2 0)) (ep_A G) U H ∧ va_Z "EchoPens" "NAMES" "[Ljava/lang/String;" (.ref (G.2.2.2 1)) (ep_A G) U H ∧ va_Z "java/lang/String" "COMPACT_STRINGS" "Z" (.int 1) (ep_A G) U H ∧ va_Zq "jdk/internal/util/Preconditions" "SIOOBE_FORMATTER" "Ljava/util/function/BiFunction;" (ep_A G) U H ∧ va_Zq "java/lang/Throwable" "UNASSIGNED_STACK" "[Ljava/lang/StackTraceElement;" (ep_A G) U H ∧ va_Zq "java/lang/Throwable" "SUPPRESSED_SENTINEL" "Ljava/util/List;" (ep_A G) U H ∧ ep_Ls "java/lang/Throwable" "UNASSIGNED_STACK" "[Ljava/lang/StackTraceElement;" (ep_A G) U H ∧ ep_Ls "java/lang/Throwable" "SUPPRESSED_SENTINEL" "Ljava/util/List;" (ep_A G) U H
theorem ep_Zt.moved {G : EG} {u U : State} {H : Heap} (hvm : u.vm.Alike U.vm) (h : ep_Zt G u H) : ep_Zt G U H := ⟨h.1.moved hvm, h.2.1.moved hvm, h.2.2.1.moved hvm, h.2.2.2.1.moved hvm, h.2.2.2.2.1.moved hvm, h.2.2.2.2.2.1.moved hvm, h.2.2.2.2.2.2.1.moved hvm, h.2.2.2.2.2.2.2.moved hvm⟩
theorem ep_Zt.kept {G : EG} {U : State} {H H1 : Heap} (h : ep_Zt G U H) (hq : ∀ a : Nat, a < H.size → ¬ ep_A G a → H1[a]? = H[a]?) : ep_Zt G U H1 := ⟨h.1.kept hq, h.2.1.kept hq, h.2.2.1.kept hq, h.2.2.2.1.kept hq, h.2.2.2.2.1.kept hq, h.2.2.2.2.2.1.kept hq, h.2.2.2.2.2.2.1.kept hq, h.2.2.2.2.2.2.2.kept hq⟩
/-- what was there at the start, as it was -/
def ep_Z (G : EG) (U : State) (H : Heap) : Prop := ep_Zt G U H ∧ ep_Zs G U H ∧ ep_Zr G U
theorem ep_Z.same {G : EG} {u U : State} {H : Heap} (hv : U.vm = u.vm) (h : ep_Z G u H) : ep_Z G U H := by
  have ha : u.vm.Alike U.vm := by rw [hv]; exact Vm.Alike.refl _
  exact ⟨h.1.moved ha, h.2.1.moved ha, h.2.2.1.same hv, h.2.2.2.1.same hv, h.2.2.2.2.same hv⟩
theorem ep_Z.warm {G : EG} {s U : State} {H : Heap} (hW : s.WarmedH U.vm) (h : ep_Z G s H) : ep_Z G U H := ⟨h.1.moved hW.alike, h.2.1.moved hW.alike, h.2.2.1.warm hW, h.2.2.2.1.warm hW, h.2.2.2.2.warm hW⟩
theorem ep_Z.kept {G : EG} {U : State} {H H1 : Heap} (h : ep_Z G U H) (hq : ∀ a : Nat, a < H.size → ¬ ep_A G a → H1[a]? = H[a]?) : ep_Z G U H1 := ⟨h.1.kept hq, h.2.1.kept hq, h.2.2⟩
/-- the world inside a method: the abstract heap, and what has changed since its start -/
def ep_W (G : EG) (cl : List vw_C) (h : Hp) (s : State) (H : Heap) (locs : List Loc) : Prop := ep_R G cl h H ∧ va_S (ep_A G) s.heap H locs
/-- a contract's start -/
def ep_U (G : EG) (cl : List vw_C) (h : Hp) (U : State) : Prop := ep_R G cl h U.heap ∧ ep_K G cl U ∧ ep_Z G U U.heap
abbrev ep_Pc (G : EG) (cl : List vw_C) (h : Hp) (av : List Value) : Array Value → State → Prop := va_Pc av (ep_U G cl h)
abbrev ep_Qi (G : EG) (cl : List vw_C) (h : Hp) (r : Int32) : Array Value → State → Outcome → State → Prop := va_Qi (fun x (_ : Unit) => x = r) (fun _ t => ep_R G cl h t.heap) (ep_A G)
abbrev ep_Ql (G : EG) (cl : List vw_C) (h : Hp) (r : Int64) : Array Value → State → Outcome → State → Prop := va_Ql (fun x (_ : Unit) => x = r) (fun _ t => ep_R G cl h t.heap) (ep_A G)
abbrev ep_Qv (G : EG) (cl : List vw_C) (h : Hp) : Array Value → State → Outcome → State → Prop := va_Qv (fun (_ : Unit) => True) (fun _ t => ep_R G cl h t.heap) (ep_A G)
abbrev ep_Qr (G : EG) (cl : List vw_C) (h : Hp) (r : Nat) : Array Value → State → Outcome → State → Prop := va_Qr (fun (_ : Unit) => True) (fun _ a t => a = r ∧ ep_R G cl h t.heap) (ep_A G)
theorem ep_blind {G : EG} {cl : List vw_C} {h : Hp} {av : List Value} : FrameBlind (ep_Pc G cl h av) := by
  intro a U g mk q
  obtain ⟨q0, hR, hK, hZ⟩ := q
  exact ⟨q0, hR, ep_K.same (u := U) (U := U.calling g mk a) rfl hK, ep_Z.same (u := U) (U := U.calling g mk a) rfl hZ⟩
section EPR
variable {p : Program} {l : Launch} {e : Env} {R : Room} {s : State} {m : MethodId} {args : Array Value} {below : List Frame} {meth : Method} {c : Code} {H : Heap} {locs : List Loc} {cells slots : Nat} {Q : State → Prop}
variable {cc : ByteArray} {pc : Nat} {ls : Array Slot} {rest : List Value} {G : EG} {cl : List vw_C} {a : Nat} {h h' : Hp}
theorem ep_start (hK : ep_K G cl s) (hZ : ep_Z G s s.heap) (hw : ep_W G cl h s H locs) {U : State} (hU : U.heap = H) (hW : s.WarmedH U.vm) : ep_U G cl h U := by
  refine ⟨by rw [hU]; exact hw.1, hK.warm hW, ?_⟩
  rw [hU]
  exact (hZ.kept hw.2.2.1).warm hW
theorem ep_preS (hK : ep_K G cl s) (hZ : ep_Z G s s.heap) (hw : ep_W G cl h s H locs) {As : List Value} : PreS s H (ep_Pc G cl h As) As := ⟨ep_blind, fun _ hU hW => ⟨rfl, ep_start hK hZ hw hU hW⟩⟩
theorem ep_preV (hK : ep_K G cl s) (hZ : ep_Z G s s.heap) (hw : ep_W G cl h s H locs) {As : List Value} {b ci : Nat} {q : vw_C} (hc : cl[ci]? = some q) (hb : ep_cls h b = some ci) : PreV s H q.1 b (ep_Pc G cl h (.ref b :: As)) As := by
  refine ⟨ep_blind, ?_, fun _ hU hW => ⟨rfl, ep_start hK hZ hw hU hW⟩⟩
  obtain ⟨fs, hfs⟩ := ep_cls_s hb
  obtain ⟨r, h1, cell, q1, q2, q3, -⟩ := (hw.1.2.2 b _ hfs).1
  have hr : r = q := Option.some.inj (h1.symm.trans hc)
  subst hr
  exact ⟨cell, q1, by rw [q3]; rfl, by rw [q2]; exact (hK.1 ci _ hc).2.1⟩
theorem ep_calli {st0 : List Value} {av : Array Value} {mc ms : Nat} {r : Int32} (hr : va_Run p l e R s m args below meth c H locs cells slots mc ms (F0 m pc ls st0) rest (ep_Qi G cl h' r av) (ep_A G)) (hw : ep_W G cl h s H locs)
    (kk : ∀ (H1 : Heap) (locs1 : List Loc), ep_W G cl h' s H1 locs1 → W p l e R s m args below meth c H1 locs1 (cells + mc) (slots + ms) Q (F0 m (pc + 3) ls (.int r :: rest))) : W p l e R s m args below meth c H locs cells slots Q (F0 m pc ls st0) :=
  va_calli hr hw.2 (fun _ _ z => z) (fun _ z => z) (fun r' u t H1 locs1 ht _ hp hB _ _ hS => by subst hp; exact kk H1 locs1 ⟨by rw [← ht]; exact hB, hS⟩)
theorem ep_calll {st0 : List Value} {av : Array Value} {mc ms : Nat} {r : Int64} (hr : va_Run p l e R s m args below meth c H locs cells slots mc ms (F0 m pc ls st0) rest (ep_Ql G cl h' r av) (ep_A G)) (hw : ep_W G cl h s H locs)
    (kk : ∀ (H1 : Heap) (locs1 : List Loc), ep_W G cl h' s H1 locs1 → W p l e R s m args below meth c H1 locs1 (cells + mc) (slots + ms) Q (F0 m (pc + 3) ls (.long r :: rest))) : W p l e R s m args below meth c H locs cells slots Q (F0 m pc ls st0) :=
  va_calll hr hw.2 (fun _ _ z => z) (fun _ z => z) (fun r' u t H1 locs1 ht _ hp hB _ _ hS => by subst hp; exact kk H1 locs1 ⟨by rw [← ht]; exact hB, hS⟩)
theorem ep_callv {st0 : List Value} {av : Array Value} {mc ms : Nat} (hr : va_Run p l e R s m args below meth c H locs cells slots mc ms (F0 m pc ls st0) rest (ep_Qv G cl h' av) (ep_A G)) (hw : ep_W G cl h s H locs)
    (kk : ∀ (H1 : Heap) (locs1 : List Loc), ep_W G cl h' s H1 locs1 → W p l e R s m args below meth c H1 locs1 (cells + mc) (slots + ms) Q (F0 m (pc + 3) ls rest)) : W p l e R s m args below meth c H locs cells slots Q (F0 m pc ls st0) :=
  va_callv hr hw.2 (fun _ _ z => z) (fun _ z => z) (fun u t H1 locs1 ht _ _ hB _ _ hS => kk H1 locs1 ⟨by rw [← ht]; exact hB, hS⟩)
theorem ep_callr {st0 : List Value} {av : Array Value} {mc ms : Nat} {r : Nat} (hr : va_Run p l e R s m args below meth c H locs cells slots mc ms (F0 m pc ls st0) rest (ep_Qr G cl h' r av) (ep_A G)) (hw : ep_W G cl h s H locs)
    (kk : ∀ (H1 : Heap) (locs1 : List Loc), ep_W G cl h' s H1 locs1 → W p l e R s m args below meth c H1 locs1 (cells + mc) (slots + ms) Q (F0 m (pc + 3) ls (.ref r :: rest))) : W p l e R s m args below meth c H locs cells slots Q (F0 m pc ls st0) :=
  va_callr hr hw.2 (fun _ _ z => z) (fun _ z => z) (fun u ra t H1 locs1 ht _ _ hB _ _ hS => by obtain ⟨e1, hB⟩ := hB; subst e1; exact kk H1 locs1 ⟨by rw [← ht]; exact hB, hS⟩)
theorem ep_reti {v : Int32} (hexec : p.tables.exec = Jvm.exec) (hb : c.code = cc) (hr : meth.sig.returnType = some .int) (hlocks : meth.locks = false) (hw : ep_W G cl h s H locs) (hdg : decode cc pc = .ok (.ireturn, 1)) : W p l e R s m args below meth c H locs cells slots (MQ below (ep_Qi G cl h v) args s cells slots (ep_A G)) (F0 m pc ls [.int v]) :=
  W.iret hexec hb hr (fun t ht _ => ⟨⟨v, (), rfl, rfl, by show ep_R G cl h t.heap; rw [ht]; exact hw.1⟩, hw.2.F ht⟩) hw.2.2.2 hdg hlocks
theorem ep_retz {v : Int32} {ty : FieldType} (hexec : p.tables.exec = Jvm.exec) (hb : c.code = cc) (hr : meth.sig.returnType = some ty) (hn : narrow ty (.int v) = .int v) (hlocks : meth.locks = false) (hw : ep_W G cl h s H locs) (hdg : decode cc pc = .ok (.ireturn, 1)) : W p l e R s m args below meth c H locs cells slots (MQ below (ep_Qi G cl h v) args s cells slots (ep_A G)) (F0 m pc ls [.int v]) :=
  W.zret hexec hb hr hn (fun t ht _ => ⟨⟨v, (), rfl, rfl, by show ep_R G cl h t.heap; rw [ht]; exact hw.1⟩, hw.2.F ht⟩) hw.2.2.2 hdg hlocks
theorem ep_retl {v : Int64} (hexec : p.tables.exec = Jvm.exec) (hb : c.code = cc) (hr : meth.sig.returnType = some .long) (hlocks : meth.locks = false) (hw : ep_W G cl h s H locs) (hdg : decode cc pc = .ok (.lreturn, 1)) : W p l e R s m args below meth c H locs cells slots (MQ below (ep_Ql G cl h v) args s cells slots (ep_A G)) (F0 m pc ls [.long v]) :=
  W.lret hexec hb hr (fun t ht _ => ⟨⟨v, (), rfl, rfl, by show ep_R G cl h t.heap; rw [ht]; exact hw.1⟩, hw.2.F ht⟩) hw.2.2.2 hdg hlocks
theorem ep_retv (hexec : p.tables.exec = Jvm.exec) (hb : c.code = cc) (hr : meth.sig.returnType = none) (hlocks : meth.locks = false) (hw : ep_W G cl h s H locs) (hdg : decode cc pc = .ok (.return_, 1)) : W p l e R s m args below meth c H locs cells slots (MQ below (ep_Qv G cl h) args s cells slots (ep_A G)) (F0 m pc ls []) :=
  W.vret hexec hb hr (fun t ht _ => ⟨⟨(), rfl, trivial, by show ep_R G cl h t.heap; rw [ht]; exact hw.1⟩, hw.2.F ht⟩) hw.2.2.2 hdg hlocks
/-- a field read -/
theorem ep_get (hexec : p.tables.exec = Jvm.exec) (hb : c.code = cc) {own C : String} {T : u_T} {N ci index : Nat} (hts : ∀ w ∈ lw_all, w.before args s = true) (hin : ∀ w ∈ u_ws C T N, w ∈ lw_all) (hown : s.vm.findClass own = some m.cls) (hK : ep_K G cl s) (hw : ep_W G cl h s H locs) (hc : cl[ci]? = some (C, T, N)) (k : Nat) (hk : k < N) (hlink : Cond.fieldLink own index (T k).1 (T k).2.1 (T k).2.2.1 ∈ lw_all) {v : Value} (hv : ep_fld h a ci k = some v) (hdg : decode cc pc = .ok (.getfield index, 3))
    (kk : W p l e R s m args below meth c H locs cells slots Q (F0 m (pc + 3) ls (v :: rest))) : W p l e R s m args below meth c H locs cells slots Q (F0 m pc ls (.ref a :: rest)) := by
  obtain ⟨fs, hfs, hk2⟩ := ep_fld_s hv
  obtain ⟨r, h1, cell, q1, q2, q3, q4⟩ := (hw.1.2.2 a _ hfs).1
  have hr : r = (C, T, N) := Option.some.inj (h1.symm.trans hc)
  subst hr
  obtain ⟨hS, hfc, kC, hkC, hkind⟩ := hK.1 ci _ hc
  obtain ⟨cf, kf, fi, f, hi, hsl⟩ := hS k hk
  refine W.getf hexec hb hown (hts _ hlink) hi (u_facts hfc hkC (u_lays hts hin hk) hi).1 q1 (by rw [q3]; exact fun h => by cases h) (v := v) ?_ rfl rfl hdg kk
  rw [hsl, q4 k hk]
  simp [vp_V, hk2]
theorem ep_getN (hexec : p.tables.exec = Jvm.exec) (hb : c.code = cc) {own C host : String} {T : u_T} {N ci index : Nat} (hts : ∀ w ∈ lw_all, w.before args s = true) (hin : ∀ w ∈ u_ws C T N, w ∈ lw_all) (hown : s.vm.findClass own = some m.cls) (hK : ep_K G cl s) (hw : ep_W G cl h s H locs) (hc : cl[ci]? = some (C, T, N)) (k : Nat) (hk : k < N) (hlink : Cond.fieldLinkNest own index (T k).1 (T k).2.1 (T k).2.2.1 host ∈ lw_tbl) {v : Value} (hv : ep_fld h a ci k = some v) (hdg : decode cc pc = .ok (.getfield index, 3))
    (kk : W p l e R s m args below meth c H locs cells slots Q (F0 m (pc + 3) ls (v :: rest))) : W p l e R s m args below meth c H locs cells slots Q (F0 m pc ls (.ref a :: rest)) := by
  obtain ⟨fs, hfs, hk2⟩ := ep_fld_s hv
  obtain ⟨r, h1, cell, q1, q2, q3, q4⟩ := (hw.1.2.2 a _ hfs).1
  have hr : r = (C, T, N) := Option.some.inj (h1.symm.trans hc)
  subst hr
  obtain ⟨hS, hfc, kC, hkC, hkind⟩ := hK.1 ci _ hc
  obtain ⟨cf, kf, fi, f, hi, hsl⟩ := hS k hk
  refine va_Wgetf hexec hb hown (hK.nestU hlink rfl) hi (u_facts hfc hkC (u_lays hts hin hk) hi).1 q1 (by rw [q3]; exact fun h => by cases h) (v := v) ?_ rfl rfl hdg kk
  rw [hsl, q4 k hk]
  simp [vp_V, hk2]
theorem ep_W.put {o : Ob} {H1 : Heap} {j : Nat} (hw : ep_W G cl h s H locs) (hA : G.2.2.1 ≤ a) (e1 : va_at G.1 cl (a, ep_E G o) H1) (z : H1.size = H.size) (oq : ∀ q : Nat, q ≠ a → H1[q]? = H[q]?) : ep_W G cl (ep_set h a o) s H1 (locs ++ [⟨a, j⟩]) :=
  ⟨hw.1.set (fun _ => hA) e1 z oq, hw.2.put z oq hA⟩
/-- a field written -/
theorem ep_put (hexec : p.tables.exec = Jvm.exec) (hb : c.code = cc) {own C : String} {T : u_T} {N ci index : Nat} (hts : ∀ w ∈ lw_all, w.before args s = true) (hin : ∀ w ∈ u_ws C T N, w ∈ lw_all) (ty0 : Nat → FieldType) (hty : ∀ k, k < N → parseFieldDescriptor (T k).2.2.1 = some (ty0 k)) (hnm : ∀ a, a < N → ∀ b, b < N → a ≠ b → (T a).2.1 ≠ (T b).2.1) (hown : s.vm.findClass own = some m.cls) (hK : ep_K G cl s) (hw : ep_W G cl h s H locs) (hc : cl[ci]? = some (C, T, N)) (hci : ci < 8) (k : Nat) (hk : k < N) (hlink : Cond.fieldLink own index (T k).1 (T k).2.1 (T k).2.2.1 ∈ lw_all) (hfin : (T k).2.2.2 = false) {v : Value} (hn : narrow (ty0 k) v = v) (hfit : fits (ty0 k) v = true) (hf : pF h a ci k v = some h') (hdg : decode cc pc = .ok (.putfield index, 3))
    (kk : ∀ (H1 : Heap) (locs1 : List Loc), ep_W G cl h' s H1 locs1 → W p l e R s m args below meth c H1 locs1 cells slots Q (F0 m (pc + 3) ls rest)) : W p l e R s m args below meth c H locs cells slots Q (F0 m pc ls (v :: .ref a :: rest)) := by
  obtain ⟨fs, hfs, hl, rfl⟩ := pF_s hf
  have hap := va_apart (own := own) hts hin ty0 hty hnm (hK.va 0 (by decide)) hc
  obtain ⟨⟨r, h1, cell, q1, q2, q3, q4⟩, hA⟩ := hw.1.2.2 a _ hfs
  have hr : r = (C, T, N) := Option.some.inj (h1.symm.trans hc)
  subst hr
  obtain ⟨hS, hfc, kC, hkC, hkind⟩ := hK.1 ci _ hc
  obtain ⟨cf, kf, fi, f, hi, hsl⟩ := hS k hk
  have hlay := hts _ (hin _ (u_in_lay hk))
  unfold u_lay at hlay
  rw [if_neg (by rw [hfin]; decide)] at hlay
  have hst := (u_facts hfc hkC (u_lays hts hin hk) hi).1
  have h6 := u_store hfc hkC hkind hlay hi (hty k hk) hn hfit
  refine W.putK hexec hb (f := f) ⟨hown, hts _ hlink, ⟨_, _, _, hi⟩, hst⟩ (by rw [q2]; exact h6) q1 q3 (by rw [hsl]; exact k2_hasslot (q4 k hk)) rfl rfl hdg fun H' e1 e2 e3 => ?_
  rw [hsl] at e1 ⊢
  exact kk H' _ (hw.put (hA hci) ⟨_, hc, t_OB.to (V := updV (vp_V fs) k v) ⟨_, e1, q2, q3, t_set q4 hap hk v⟩ (fun j _ => vp_updV_set hl v j)⟩ e2 e3)
theorem ep_putF (hexec : p.tables.exec = Jvm.exec) (hb : c.code = cc) {own C : String} {T : u_T} {N ci index : Nat} (hts : ∀ w ∈ lw_all, w.before args s = true) (hin : ∀ w ∈ u_ws C T N, w ∈ lw_all) (ty0 : Nat → FieldType) (hty : ∀ k, k < N → parseFieldDescriptor (T k).2.2.1 = some (ty0 k)) (hnm : ∀ a, a < N → ∀ b, b < N → a ≠ b → (T a).2.1 ≠ (T b).2.1) (hown : s.vm.findClass own = some m.cls) (hK : ep_K G cl s) (hw : ep_W G cl h s H locs) (hc : cl[ci]? = some (C, T, N)) (hci : ci < 8) (k : Nat) (hk : k < N) (hlink : Cond.fieldLink own index (T k).1 (T k).2.1 (T k).2.2.1 ∈ lw_all) (hfin : (T k).2.2.2 = true) (hin2 : meth.name = "<init>") (hdecl : (T k).1 = own) {v : Value} (hn : narrow (ty0 k) v = v) (hfit : fits (ty0 k) v = true) (hf : pF h a ci k v = some h') (hdg : decode cc pc = .ok (.putfield index, 3))
    (kk : ∀ (H1 : Heap) (locs1 : List Loc), ep_W G cl h' s H1 locs1 → W p l e R s m args below meth c H1 locs1 cells slots Q (F0 m (pc + 3) ls rest)) : W p l e R s m args below meth c H locs cells slots Q (F0 m pc ls (v :: .ref a :: rest)) := by
  obtain ⟨fs, hfs, hl, rfl⟩ := pF_s hf
  have hap := va_apart (own := own) hts hin ty0 hty hnm (hK.va 0 (by decide)) hc
  obtain ⟨⟨r, h1, cell, q1, q2, q3, q4⟩, hA⟩ := hw.1.2.2 a _ hfs
  have hr : r = (C, T, N) := Option.some.inj (h1.symm.trans hc)
  subst hr
  obtain ⟨hS, hfc, kC, hkC, hkind⟩ := hK.1 ci _ hc
  obtain ⟨cf, kf, fi, f, hi, hsl⟩ := hS k hk
  have hlay := hts _ (hin _ (u_in_lay hk))
  unfold u_lay at hlay
  rw [if_pos hfin] at hlay
  have hst := (u_facts hfc hkC (u_lays hts hin hk) hi).1
  have hcf : m.cls = cf := by
    obtain ⟨_, _, c', _, _, _, -, -, hf', -, -, -, hown2, -⟩ := Cond.laysFinal_spec hlay
    have e1 : c' = cf := by have := hi.symm.trans hf'; simp at this; exact this.1.symm
    rw [hdecl] at hown2
    rw [← e1]; exact Option.some.inj (hown.symm.trans hown2)
  have h6 := u_fits hfc hkC hkind (Or.inr hlay) hi (hty k hk) hn hfit
  refine W.putFinK hexec hb hown (hts _ hlink) hi hst hcf hin2 (by rw [q2]; exact h6) q1 q3 (by rw [hsl]; exact k2_hasslot (q4 k hk)) rfl rfl hdg fun H' e1 e2 e3 => ?_
  rw [hsl] at e1 ⊢
  exact kk H' _ (hw.put (hA hci) ⟨_, hc, t_OB.to (V := updV (vp_V fs) k v) ⟨_, e1, q2, q3, t_set q4 hap hk v⟩ (fun j _ => vp_updV_set hl v j)⟩ e2 e3)
theorem ep_putN (hexec : p.tables.exec = Jvm.exec) (hb : c.code = cc) {own C host : String} {T : u_T} {N ci index : Nat} (hts : ∀ w ∈ lw_all, w.before args s = true) (hin : ∀ w ∈ u_ws C T N, w ∈ lw_all) (ty0 : Nat → FieldType) (hty : ∀ k, k < N → parseFieldDescriptor (T k).2.2.1 = some (ty0 k)) (hnm : ∀ a, a < N → ∀ b, b < N → a ≠ b → (T a).2.1 ≠ (T b).2.1) (hown : s.vm.findClass own = some m.cls) (hK : ep_K G cl s) (hw : ep_W G cl h s H locs) (hc : cl[ci]? = some (C, T, N)) (hci : ci < 8) (k : Nat) (hk : k < N) (hlink : Cond.fieldLinkNest own index (T k).1 (T k).2.1 (T k).2.2.1 host ∈ lw_tbl) (hfin : (T k).2.2.2 = false) {v : Value} (hn : narrow (ty0 k) v = v) (hfit : fits (ty0 k) v = true) (hf : pF h a ci k v = some h') (hdg : decode cc pc = .ok (.putfield index, 3))
    (kk : ∀ (H1 : Heap) (locs1 : List Loc), ep_W G cl h' s H1 locs1 → W p l e R s m args below meth c H1 locs1 cells slots Q (F0 m (pc + 3) ls rest)) : W p l e R s m args below meth c H locs cells slots Q (F0 m pc ls (v :: .ref a :: rest)) := by
  obtain ⟨fs, hfs, hl, rfl⟩ := pF_s hf
  have hap := va_apart (own := own) hts hin ty0 hty hnm (hK.va 0 (by decide)) hc
  obtain ⟨⟨r, h1, cell, q1, q2, q3, q4⟩, hA⟩ := hw.1.2.2 a _ hfs
  have hr : r = (C, T, N) := Option.some.inj (h1.symm.trans hc)
  subst hr
  obtain ⟨hS, hfc, kC, hkC, hkind⟩ := hK.1 ci _ hc
  obtain ⟨cf, kf, fi, f, hi, hsl⟩ := hS k hk
  have hlay := hts _ (hin _ (u_in_lay hk))
  unfold u_lay at hlay
  rw [if_neg (by rw [hfin]; decide)] at hlay
  have hst := (u_facts hfc hkC (u_lays hts hin hk) hi).1
  have h6 := u_store hfc hkC hkind hlay hi (hty k hk) hn hfit
  refine va_WputK hexec hb hown (hK.nestU hlink rfl) hi hst (by rw [q2]; exact h6) q1 q3 (by rw [hsl]; exact k2_hasslot (q4 k hk)) rfl rfl hdg fun H' e1 e2 e3 => ?_
  rw [hsl] at e1 ⊢
  exact kk H' _ (hw.put (hA hci) ⟨_, hc, t_OB.to (V := updV (vp_V fs) k v) ⟨_, e1, q2, q3, t_set q4 hap hk v⟩ (fun j _ => vp_updV_set hl v j)⟩ e2 e3)
theorem ep_iald (hexec : p.tables.exec = Jvm.exec) (hb : c.code = cc) (hK : ep_K G cl s) (hw : ep_W G cl h s H locs) {i x : Int32} (hv : aI 0 h a i = some x) (hdg : decode cc pc = .ok (.iaload, 1))
    (kk : W p l e R s m args below meth c H locs cells slots Q (F0 m (pc + 1) ls (.int x :: rest))) : W p l e R s m args below meth c H locs cells slots Q (F0 m pc ls (.int i :: .ref a :: rest)) := by
  obtain ⟨n, f, h1, h2, rfl⟩ := aI_s hv
  exact va_iald hexec hb (hK.va 0 (by decide)) (ws := [(a, .inl (G.2.1 0, n, .inl f))]) (fun k q hq => by
    have hz : k < 1 := (List.getElem?_eq_some_iff.mp hq).1
    rw [show k = 0 by omega] at hq
    cases hq
    exact (hw.1.2.2 a _ h1).1) 0 0 rfl rfl h2 hdg kk
theorem ep_bald (t : Nat) (ht : t < 12) (hty : ep_ty t = .byte) (hexec : p.tables.exec = Jvm.exec) (hb : c.code = cc) (hK : ep_K G cl s) (hw : ep_W G cl h s H locs) {i x : Int32} (hv : aI t h a i = some x) (hdg : decode cc pc = .ok (.baload, 1))
    (kk : W p l e R s m args below meth c H locs cells slots Q (F0 m (pc + 1) ls (.int x :: rest))) : W p l e R s m args below meth c H locs cells slots Q (F0 m pc ls (.int i :: .ref a :: rest)) := by
  obtain ⟨n, f, h1, h2, rfl⟩ := aI_s hv
  have hKv := hK.va t ht
  rw [hty] at hKv
  exact va_bald hexec hb hKv (ws := [(a, .inl (G.2.1 t, n, .inl f))]) (fun k q hq => by
    have hz : k < 1 := (List.getElem?_eq_some_iff.mp hq).1
    rw [show k = 0 by omega] at hq
    cases hq
    exact (hw.1.2.2 a _ h1).1) 0 0 rfl rfl h2 hdg kk
theorem ep_zald (hexec : p.tables.exec = Jvm.exec) (hb : c.code = cc) (hK : ep_K G cl s) (hw : ep_W G cl h s H locs) {i x : Int32} (hv : aI 3 h a i = some x) (hdg : decode cc pc = .ok (.baload, 1))
    (kk : W p l e R s m args below meth c H locs cells slots Q (F0 m (pc + 1) ls (.int x :: rest))) : W p l e R s m args below meth c H locs cells slots Q (F0 m pc ls (.int i :: .ref a :: rest)) := by
  obtain ⟨n, f, h1, h2, rfl⟩ := aI_s hv
  exact va_zald hexec hb (hK.va 3 (by decide)) (ws := [(a, .inl (G.2.1 3, n, .inl f))]) (fun k q hq => by
    have hz : k < 1 := (List.getElem?_eq_some_iff.mp hq).1
    rw [show k = 0 by omega] at hq
    cases hq
    exact (hw.1.2.2 a _ h1).1) 0 0 rfl rfl h2 hdg kk
theorem ep_sald (hexec : p.tables.exec = Jvm.exec) (hb : c.code = cc) (hK : ep_K G cl s) (hw : ep_W G cl h s H locs) {i x : Int32} (hv : aI 2 h a i = some x) (hdg : decode cc pc = .ok (.saload, 1))
    (kk : W p l e R s m args below meth c H locs cells slots Q (F0 m (pc + 1) ls (.int x :: rest))) : W p l e R s m args below meth c H locs cells slots Q (F0 m pc ls (.int i :: .ref a :: rest)) := by
  obtain ⟨n, f, h1, h2, rfl⟩ := aI_s hv
  exact va_sald hexec hb (hK.va 2 (by decide)) (ws := [(a, .inl (G.2.1 2, n, .inl f))]) (fun k q hq => by
    have hz : k < 1 := (List.getElem?_eq_some_iff.mp hq).1
    rw [show k = 0 by omega] at hq
    cases hq
    exact (hw.1.2.2 a _ h1).1) 0 0 rfl rfl h2 hdg kk
theorem ep_aald (t : Nat) (ht : t < 12) (href : (ep_ty t).isReference = true) (hexec : p.tables.exec = Jvm.exec) (hb : c.code = cc) (hK : ep_K G cl s) (hw : ep_W G cl h s H locs) {i : Int32} {x : Nat} (hv : aQ t h a i = some x) (hdg : decode cc pc = .ok (.aaload, 1))
    (kk : W p l e R s m args below meth c H locs cells slots Q (F0 m (pc + 1) ls (.ref x :: rest))) : W p l e R s m args below meth c H locs cells slots Q (F0 m pc ls (.int i :: .ref a :: rest)) := by
  obtain ⟨n, f, h1, hin, h3⟩ := aQ_s hv
  have hlt : i.toNatClampNeg < n := Nat.not_le.mp fun q => hin (Or.inr q)
  have hcell : H[a]? = some (vp_cell (G.2.1 t) (n, .inr (.inr (.inr (.inr f))))) := (hw.1.2.2 a _ h1).1
  exact W.aald (v := .ref x) (ty := ep_ty t) hexec hb hcell ((hK.2.1 t ht).1 n (fun j => va_rf (f j))) href (fun q => by cases q) (by show ¬ (i < 0 ∨ (arrV _ _ _).slots.size ≤ _); rw [arrV_size]; exact hin) (by show (arrV _ _ _).slots[_]? = _; rw [arrV_read _ _ hlt, h3]; rfl) rfl rfl hdg kk
theorem ep_alen (t : Nat) (ht : t < 12) {o : Ob} (hexec : p.tables.exec = Jvm.exec) (hb : c.code = cc) (hK : ep_K G cl s) (hw : ep_W G cl h s H locs) {x : Int32} (ho : h.2 a = some o) (htag : (∃ n f, o = .inl (t, n, f)) ∨ (∃ n f, o = .inr (.inl (t, n, f)))) (hv : aLen h a = some x) (hdg : decode cc pc = .ok (.arraylength, 1))
    (kk : W p l e R s m args below meth c H locs cells slots Q (F0 m (pc + 1) ls (.int x :: rest))) : W p l e R s m args below meth c H locs cells slots Q (F0 m pc ls (.ref a :: rest)) := by
  have hKv := hK.va t ht
  rcases htag with ⟨n, f, rfl⟩ | ⟨n, f, rfl⟩
  · have e1 : x = Int32.ofNat n := by simpa [aLen, ho] using hv.symm
    subst e1
    exact va_alen hexec hb hKv (ws := [(a, .inl (G.2.1 t, n, .inl f))]) (fun k q hq => by
      have hz : k < 1 := (List.getElem?_eq_some_iff.mp hq).1
      rw [show k = 0 by omega] at hq
      cases hq
      exact (hw.1.2.2 a _ ho).1) 0 0 rfl rfl rfl hdg kk
  · have e1 : x = Int32.ofNat n := by simpa [aLen, ho] using hv.symm
    subst e1
    exact va_alen hexec hb hKv (ws := [(a, .inl (G.2.1 t, n, .inr (.inr (.inr (.inr f)))))]) (fun k q hq => by
      have hz : k < 1 := (List.getElem?_eq_some_iff.mp hq).1
      rw [show k = 0 by omega] at hq
      cases hq
      exact (hw.1.2.2 a _ ho).1) 0 0 rfl rfl rfl hdg kk
end EPR
