/-! ===== what makes cells, as the printed walks name it ===== -/
set_option maxRecDepth 100000
def nwO (ci : Nat) (fs : List Value) (h : Hp) : Option Hp := some (ep_push h (.inr (.inr (ci, fs))))
def nwI (t B : Nat) (n : Int32) (h : Hp) : Option Hp := if ¬ n < 0 ∧ n.toNatClampNeg ≤ B then some (ep_push h (.inl (t, n.toNatClampNeg, fun _ => 0))) else none
def nwQ (t B : Nat) (n : Int32) (h : Hp) : Option Hp := if ¬ n < 0 ∧ n.toNatClampNeg ≤ B then some (ep_push h (.inr (.inl (t, n.toNatClampNeg, fun _ => none)))) else none
def nwM (t ti N K : Nat) (n k : Int32) (h : Hp) : Option Hp := if ¬ n < 0 ∧ ¬ k < 0 ∧ n.toNatClampNeg = N ∧ k.toNatClampNeg = K then some (mulH t ti N K h N) else none
section EPR5
variable {p : Program} {l : Launch} {e : Env} {R : Room} {s : State} {m : MethodId} {args : Array Value} {below : List Frame} {meth : Method} {c : Code} {H : Heap} {locs : List Loc} {cells slots : Nat} {Q : State → Prop}
variable {cc : ByteArray} {pc : Nat} {ls : Array Slot} {rest : List Value} {G : EG} {cl : List vw_C} {a : Nat} {h h' : Hp}
theorem ep_newH (hexec : p.tables.exec = Jvm.exec) (hb : c.code = cc) {own C : String} {T : u_T} {N ci index : Nat} (hts : ∀ w ∈ lw_all, w.before args s = true) (hin : ∀ w ∈ u_ws C T N, w ∈ lw_all) (ty : Nat → FieldType) (hty : ∀ k, k < N → parseFieldDescriptor (T k).2.2.1 = some (ty k)) (hown : s.vm.findClass own = some m.cls) (hcl : Cond.classLink own index C ∈ lw_all) (hinst : Cond.instantiable C N ∈ lw_all) (hini : Cond.initialized C ∈ lw_all)
    (hK : ep_K G cl s) (hw : ep_W G cl h s H locs) (hc : cl[ci]? = some (C, T, N)) {fs : List Value} (hfs : ∀ j, j < N → defaultValue (ty j) = vp_V fs j) (hcells : cells + 1 ≤ R.cells) (hslots : slots + N ≤ R.slots) (hf : nwO ci fs h = some h') (hdg : decode cc pc = .ok (.new index, 3))
    (kk : ∀ (H1 : Heap) (locs1 : List Loc), ep_W G cl h' s H1 locs1 → W p l e R s m args below meth c H1 locs1 (cells + 1) (slots + N) Q (F0 m (pc + 3) ls (.ref h.1 :: rest))) : W p l e R s m args below meth c H locs cells slots Q (F0 m pc ls rest) := by
  cases hf
  exact ep_new hexec hb hts hin ty hty hown hcl hinst hini hK hw hc hfs hcells hslots hdg (fun H1 hw1 => kk H1 locs hw1)
theorem ep_newaH (t B : Nat) (hexec : p.tables.exec = Jvm.exec) (hb : c.code = cc) (hts : ∀ w ∈ lw_all, w.before args s = true) {atype : ArrayType} (harr : Cond.arrayClass (newarray.typeOf atype) ∈ lw_all) (hty : newarray.typeOf atype = ep_ty t) (ht : t < 4) (hdef : defaultValue (ep_ty t) = .int 0) (hRA : ∀ U cA, va_RA U cA (ep_ty t) = (U.vm.findClass ("[" ++ (ep_ty t).toString) = some cA)) (hK : ep_K G cl s) (hw : ep_W G cl h s H locs)
    {n : Int32} (hbytes : B * componentBytes (ep_ty t) ≤ 536870912) (hcells : cells + 1 ≤ R.cells) (hslots : slots + B ≤ R.slots) (hf : nwI t B n h = some h') (hdg : decode cc pc = .ok (.newarray atype, 2))
    (kk : ∀ (H1 : Heap) (locs1 : List Loc), ep_W G cl h' s H1 locs1 → W p l e R s m args below meth c H1 locs1 (cells + 1) (slots + B) Q (F0 m (pc + 2) ls (.ref h.1 :: rest))) : W p l e R s m args below meth c H locs cells slots Q (F0 m pc ls (.int n :: rest)) := by
  obtain ⟨⟨h1, h2⟩, hf⟩ := oi_c hf
  cases hf
  exact ep_newa t hexec hb hts harr hty ht hdef hRA hK hw h1 rfl (Nat.le_trans (Nat.mul_le_mul_right _ h2) hbytes) hcells (by omega) hdg (fun H1 hw1 => W.widen (Nat.le_refl _) (by omega) (kk H1 locs hw1))
theorem ep_newqH (t B : Nat) (hexec : p.tables.exec = Jvm.exec) (hb : c.code = cc) {own C : String} {index : Nat} (hts : ∀ w ∈ lw_all, w.before args s = true) (hown : s.vm.findClass own = some m.cls) (hclink : Cond.classLink own index C ∈ lw_all) (hover : va_AO C s) (ht : t < 12) (hty : ep_ty t = .object C) (hK : ep_K G cl s) (hw : ep_W G cl h s H locs)
    {n : Int32} (hbytes : B * 4 ≤ 536870912) (hcells : cells + 1 ≤ R.cells) (hslots : slots + B ≤ R.slots) (hf : nwQ t B n h = some h') (hdg : decode cc pc = .ok (.anewarray index, 3))
    (kk : ∀ (H1 : Heap) (locs1 : List Loc), ep_W G cl h' s H1 locs1 → W p l e R s m args below meth c H1 locs1 (cells + 1) (slots + B) Q (F0 m (pc + 3) ls (.ref h.1 :: rest))) : W p l e R s m args below meth c H locs cells slots Q (F0 m pc ls (.int n :: rest)) := by
  obtain ⟨⟨h1, h2⟩, hf⟩ := oi_c hf
  cases hf
  exact ep_newq t hexec hb hts hown hclink hover ht hty hK hw h1 rfl (by omega) hcells (by omega) hdg (fun H1 hw1 => W.widen (Nat.le_refl _) (by omega) (kk H1 locs hw1))
theorem ep_multiH (t ti N K : Nat) {ty : FieldType} (hexec : p.tables.exec = Jvm.exec) (hb : c.code = cc) {own : String} {index : Nat} (hts : ∀ w ∈ lw_all, w.before args s = true) (hown : s.vm.findClass own = some m.cls) (hclink : Cond.classLink own index ("[" ++ (FieldType.array ty).toString) ∈ lw_all) (harr : Cond.arrayClass ty ∈ lw_all) (ht : t < 9) (hti : ti < 9) (hty : ep_ty t = .array ty) (hty2 : ep_ty ti = ty) (hRA : ∀ U cA, va_RA U cA ty = (U.vm.findClass ("[" ++ ty.toString) = some cA)) (hstr : (FieldType.array ty).toString = "[" ++ ty.toString) (hdv : defaultValue ty = .int 0) (hfi : fits ty (.int 0) = true) (hao : (Cond.arrayOver (.array ty)).before #[] s = true) (hK : ep_K G cl s) (hw : ep_W G cl h s H locs)
    {n k : Int32} (hb1 : N * 4 ≤ 536870912) (hb2 : K * componentBytes ty ≤ 536870912) (hb3 : K ≤ 536870912) (hcells : cells + (1 + N) ≤ R.cells) (hslots : slots + (N + N * K) ≤ R.slots) (hf : nwM t ti N K n k h = some h') (hdg : decode cc pc = .ok (.multianewarray index 2, 4))
    (kk : ∀ (H1 : Heap) (locs1 : List Loc), ep_W G cl h' s H1 locs1 → W p l e R s m args below meth c H1 locs1 (cells + (1 + N)) (slots + (N + N * K)) Q (F0 m (pc + 4) ls (.ref h.1 :: rest))) : W p l e R s m args below meth c H locs cells slots Q (F0 m pc ls (.int k :: .int n :: rest)) := by
  obtain ⟨⟨h1, h2, h3, h4⟩, hf⟩ := oi_c hf
  cases hf
  exact ep_multi t ti hexec hb hts hown hclink harr ht hti hty hty2 hRA hstr hdv hfi hao hK hw h1 h2 h3 h4 hb1 hb2 hb3 hcells hslots hdg kk
end EPR5
