/-! ===== rows that write arrays, make cells, copy ===== -/
set_option maxRecDepth 100000
section EPR2
variable {p : Program} {l : Launch} {e : Env} {R : Room} {s : State} {m : MethodId} {args : Array Value} {below : List Frame} {meth : Method} {c : Code} {H : Heap} {locs : List Loc} {cells slots : Nat} {Q : State → Prop}
variable {cc : ByteArray} {pc : Nat} {ls : Array Slot} {rest : List Value} {G : EG} {cl : List vw_C} {a : Nat} {h h' : Hp}
theorem ep_stored {t n : Nat} {f : Nat → Int32} {j : Nat} {x : Int32} {v : Value} {H1 : Heap} {cA : ClassId} (hv : v = .int x) (e1 : H1[a]? = some ((vp_cell cA (n, .inl f)).setSlot j v)) : H1[a]? = some (vp_cell cA (n, .inl (upd f j x))) := by
  subst hv
  rw [e1]
  rw [vp_cell_i, vp_cell_i, arrV_store]
  congr 2
  funext q
  by_cases hq : q = j
  · subst hq
    simp [updV, upd]
  · simp [updV, upd, hq]
theorem ep_iast (hexec : p.tables.exec = Jvm.exec) (hb : c.code = cc) (hK : ep_K G cl s) (hw : ep_W G cl h s H locs) {i x : Int32} (hf : aS 0 h a i x = some h') (hdg : decode cc pc = .ok (.iastore, 1))
    (kk : ∀ (H1 : Heap) (locs1 : List Loc), ep_W G cl h' s H1 locs1 → W p l e R s m args below meth c H1 locs1 cells slots Q (F0 m (pc + 1) ls rest)) : W p l e R s m args below meth c H locs cells slots Q (F0 m pc ls (.int x :: .int i :: .ref a :: rest)) := by
  obtain ⟨n, f, h1, hin, rfl⟩ := aS_s hf
  obtain ⟨hc, hA⟩ := hw.1.2.2 a _ h1
  have hcell : H[a]? = some (vp_cell (G.2.1 0) (n, .inl f)) := hc
  refine W.iast hexec hb hcell ((hK.2.1 0 (by decide)).1 n (fun j => .int (f j))) (fun q => by cases q) (by show ¬ (i < 0 ∨ (arrV _ _ _).slots.size ≤ _); rw [arrV_size]; exact hin) rfl rfl hdg fun H1 e z oq => ?_
  exact kk H1 _ (hw.put (hA (by show 0 < 9; decide)) (ep_stored (t := 0) rfl e) z oq)
theorem ep_bast (hexec : p.tables.exec = Jvm.exec) (hb : c.code = cc) (hK : ep_K G cl s) (hw : ep_W G cl h s H locs) {i x : Int32} (hf : aS 1 h a i x.toInt8.toInt32 = some h') (hdg : decode cc pc = .ok (.bastore, 1))
    (kk : ∀ (H1 : Heap) (locs1 : List Loc), ep_W G cl h' s H1 locs1 → W p l e R s m args below meth c H1 locs1 cells slots Q (F0 m (pc + 1) ls rest)) : W p l e R s m args below meth c H locs cells slots Q (F0 m pc ls (.int x :: .int i :: .ref a :: rest)) := by
  obtain ⟨n, f, h1, hin, rfl⟩ := aS_s hf
  obtain ⟨hc, hA⟩ := hw.1.2.2 a _ h1
  have hcell : H[a]? = some (vp_cell (G.2.1 1) (n, .inl f)) := hc
  refine W.bast hexec hb hcell ((hK.2.1 1 (by decide)).1 n (fun j => .int (f j))) (fun q => by cases q) (by show ¬ (i < 0 ∨ (arrV _ _ _).slots.size ≤ _); rw [arrV_size]; exact hin) rfl rfl hdg fun H1 e z oq => ?_
  exact kk H1 _ (hw.put (hA (by show 1 < 9; decide)) (ep_stored (t := 1) (by rfl) e) z oq)
theorem ep_sast (hexec : p.tables.exec = Jvm.exec) (hb : c.code = cc) (hK : ep_K G cl s) (hw : ep_W G cl h s H locs) {i x : Int32} (hf : aS 2 h a i x.toInt16.toInt32 = some h') (hdg : decode cc pc = .ok (.sastore, 1))
    (kk : ∀ (H1 : Heap) (locs1 : List Loc), ep_W G cl h' s H1 locs1 → W p l e R s m args below meth c H1 locs1 cells slots Q (F0 m (pc + 1) ls rest)) : W p l e R s m args below meth c H locs cells slots Q (F0 m pc ls (.int x :: .int i :: .ref a :: rest)) := by
  obtain ⟨n, f, h1, hin, rfl⟩ := aS_s hf
  obtain ⟨hc, hA⟩ := hw.1.2.2 a _ h1
  have hcell : H[a]? = some (vp_cell (G.2.1 2) (n, .inl f)) := hc
  refine W.sast hexec hb hcell ((hK.2.1 2 (by decide)).1 n (fun j => .int (f j))) (fun q => by cases q) (by show ¬ (i < 0 ∨ (arrV _ _ _).slots.size ≤ _); rw [arrV_size]; exact hin) rfl rfl hdg fun H1 e z oq => ?_
  exact kk H1 _ (hw.put (hA (by show 2 < 9; decide)) (ep_stored (t := 2) (by rfl) e) z oq)
theorem ep_zast (hexec : p.tables.exec = Jvm.exec) (hb : c.code = cc) (hK : ep_K G cl s) (hw : ep_W G cl h s H locs) {i x : Int32} (hn : narrow .boolean (.int x) = .int x) (hf : aS 3 h a i x = some h') (hdg : decode cc pc = .ok (.bastore, 1))
    (kk : ∀ (H1 : Heap) (locs1 : List Loc), ep_W G cl h' s H1 locs1 → W p l e R s m args below meth c H1 locs1 cells slots Q (F0 m (pc + 1) ls rest)) : W p l e R s m args below meth c H locs cells slots Q (F0 m pc ls (.int x :: .int i :: .ref a :: rest)) := by
  obtain ⟨n, f, h1, hin, rfl⟩ := aS_s hf
  obtain ⟨hc, hA⟩ := hw.1.2.2 a _ h1
  have hcell : H[a]? = some (vp_cell (G.2.1 3) (n, .inl f)) := hc
  refine W.zast hexec hb hcell ((hK.2.1 3 (by decide)).1 n (fun j => .int (f j))) (fun q => by cases q) (by show ¬ (i < 0 ∨ (arrV _ _ _).slots.size ≤ _); rw [arrV_size]; exact hin) rfl rfl hdg fun H1 e z oq => ?_
  exact kk H1 _ (hw.put (hA (by show 3 < 9; decide)) (ep_stored (t := 3) hn e) z oq)
/-- a new object -/
theorem ep_new (hexec : p.tables.exec = Jvm.exec) (hb : c.code = cc) {own C : String} {T : u_T} {N ci index : Nat} (hts : ∀ w ∈ lw_all, w.before args s = true) (hin : ∀ w ∈ u_ws C T N, w ∈ lw_all) (ty : Nat → FieldType) (hty : ∀ k, k < N → parseFieldDescriptor (T k).2.2.1 = some (ty k)) (hown : s.vm.findClass own = some m.cls) (hcl : Cond.classLink own index C ∈ lw_all) (hinst : Cond.instantiable C N ∈ lw_all) (hini : Cond.initialized C ∈ lw_all)
    (hK : ep_K G cl s) (hw : ep_W G cl h s H locs) (hc : cl[ci]? = some (C, T, N)) {fs : List Value} (hfs : ∀ j, j < N → defaultValue (ty j) = vp_V fs j) (hcells : cells + 1 ≤ R.cells) (hslots : slots + N ≤ R.slots) (hdg : decode cc pc = .ok (.new index, 3))
    (kk : ∀ (H1 : Heap), ep_W G cl (ep_push h (.inr (.inr (ci, fs)))) s H1 locs → W p l e R s m args below meth c H1 locs (cells + 1) (slots + N) Q (F0 m (pc + 3) ls (.ref h.1 :: rest))) : W p l e R s m args below meth c H locs cells slots Q (F0 m pc ls rest) := by
  have hKn := hK.1 ci _ hc
  have hS := hw.2
  refine W.newcK hexec hb hown (hts _ hcl) (hts _ hinst) (hts _ hini) rfl hdg hcells hslots hKn.2.1 hw.1.1 fun H1 kC hkC e1 z1 o1 => ?_
  refine kk H1 ⟨hw.1.push ?_ (by rw [z1, hw.1.1]) (fun q hq => o1 q (by rw [← hw.1.1]; exact hq)), ⟨Nat.le_trans hS.1 (by rw [z1, hw.1.1]; omega), fun x h1 h2 => (o1 x (by rw [← hw.1.1]; exact Nat.lt_of_lt_of_le h1 hS.1)).trans (hS.2.1 x h1 h2), hS.2.2⟩⟩
  exact ⟨_, hc, (u_born ty hts hin hKn hkC e1 hty).to hfs⟩
/-- a new array of whole numbers -/
theorem ep_newa (t : Nat) (hexec : p.tables.exec = Jvm.exec) (hb : c.code = cc) (hts : ∀ w ∈ lw_all, w.before args s = true) {atype : ArrayType} (harr : Cond.arrayClass (newarray.typeOf atype) ∈ lw_all) (hty : newarray.typeOf atype = ep_ty t) (ht : t < 4) (hdef : defaultValue (ep_ty t) = .int 0) (hRA : ∀ U cA, va_RA U cA (ep_ty t) = (U.vm.findClass ("[" ++ (ep_ty t).toString) = some cA)) (hK : ep_K G cl s) (hw : ep_W G cl h s H locs)
    {n : Int32} {N' : Nat} (hn : ¬ n < 0) (hN : n.toNatClampNeg = N') (hbytes : N' * componentBytes (ep_ty t) ≤ 536870912) (hcells : cells + 1 ≤ R.cells) (hslots : slots + N' ≤ R.slots) (hdg : decode cc pc = .ok (.newarray atype, 2))
    (kk : ∀ (H1 : Heap), ep_W G cl (ep_push h (.inl (t, N', fun _ => 0))) s H1 locs → W p l e R s m args below meth c H1 locs (cells + 1) (slots + N') Q (F0 m (pc + 2) ls (.ref h.1 :: rest))) : W p l e R s m args below meth c H locs cells slots Q (F0 m pc ls (.int n :: rest)) := by
  have hS := hw.2
  refine va_newaK hexec hb (hts _ harr) rfl hdg rfl hn hN (by rw [hty]; exact hbytes) hcells hslots hw.1.1 fun H1 cA e1 z1 o1 hAr hNm => ?_
  rw [hty] at e1 hNm
  have h2 := (hK.2.1 t (by omega)).2
  rw [hRA] at h2
  have hcA : cA = G.2.1 t := Option.some.inj (hNm.symm.trans h2)
  subst hcA
  refine kk H1 ⟨hw.1.push ?_ (by rw [z1, hw.1.1]) (fun q hq => o1 q (by rw [← hw.1.1]; exact hq)), ⟨Nat.le_trans hS.1 (by rw [z1, hw.1.1]; omega), fun x h1 h2 => (o1 x (by rw [← hw.1.1]; exact Nat.lt_of_lt_of_le h1 hS.1)).trans (hS.2.1 x h1 h2), hS.2.2⟩⟩
  show H1[h.1]? = some (vp_cell (G.2.1 t) (N', .inl (fun _ => 0)))
  rw [e1, vp_cell_i, hdef]
/-- System.arraycopy of whole numbers -/
theorem ep_copy (t : Nat) (ht : t < 9) (hprim : refKind (ep_ty t) = false) (hexec : p.tables.exec = Jvm.exec) (hb : c.code = cc) (hml : c.maxLocals = ls.size) (hts : ∀ w ∈ lw_all, w.before args s = true) {own : String} {index : Nat} (hown : s.vm.findClass own = some m.cls) (hlink : Cond.methodLink own index arraycopyName ∈ lw_all) (hnat : Cond.native arraycopyName ∈ lw_all) (hstat : Cond.static arraycopyName ∈ lw_all) (hini : Cond.initialized "java/lang/System" ∈ lw_all)
    (hK : ep_K G cl s) (hw : ep_W G cl h s H locs) {a0 : Nat} {sp dp n : Int32} (hf : cpA t h a0 sp a dp n = some h')
    (hframes : 1 ≤ R.frames) (hlocals : (rest.map fun v => v.category).sum + (nativeFrameWords "java/lang/System" "arraycopy" 5 + 11) ≤ R.locals) (hdg : decode cc pc = .ok (.invokestatic index, 3))
    (kk : ∀ (H1 : Heap) (locs1 : List Loc), ep_W G cl h' s H1 locs1 → W p l e R s m args below meth c H1 locs1 cells slots Q (F0 m (pc + 3) ls rest)) : W p l e R s m args below meth c H locs cells slots Q (F0 m pc ls (.int n :: .int dp :: .ref a :: .int sp :: .ref a0 :: rest)) := by
  obtain ⟨n0, n1, f, g, ha0, ha1, h1, h2, h3, h4, h5, hfit, rfl⟩ := cpA_s hf
  have nn : ∀ z : Int32, ¬ z < 0 → z.toInt = (z.toNatClampNeg : Int) := by
    intro z hz
    have hz0 : (0 : Int) ≤ z.toInt := by
      have := Int32.not_lt.mp hz
      simpa using Int32.le_iff_toInt_le.mp this
    show z.toInt = ((z.toInt.toNat : Nat) : Int)
    omega
  have hS := hw.2
  have hA : G.2.2.1 ≤ a := (hw.1.2.2 a _ ha1).2 ht
  intro T hT X
  have hc0 : H[a0]? = some (vp_cell (G.2.1 t) (n0, .inl f)) := (hw.1.2.2 a0 _ ha0).1
  have hc1 : H[a]? = some (vp_cell (G.2.1 t) (n1, .inl g)) := (hw.1.2.2 a _ ha1).1
  obtain ⟨-, k0, hk0, cm0, hkk0⟩ := (hK.2.1 t (by omega)).1 n0 (fun j => .int (f j))
  obtain ⟨-, k1, hk1, cm1, hkk1⟩ := (hK.2.1 t (by omega)).1 n1 (fun j => .int (g j))
  obtain ⟨vm', X', step⟩ := X.arraycopy hexec hown (hts _ hlink) (hts _ hnat) (hts _ hstat) (hts _ hini) (src := a0) (dst := a) (cs := vp_cell (G.2.1 t) (n0, .inl f)) (cd := vp_cell (G.2.1 t) (n1, .inl g)) (srcPos := sp) (destPos := dp) (n := n) (by rw [hT]; exact hc0) (by rw [hT]; exact hc1)
    (fun _ h => by cases h) (fun _ h => by cases h) (fun h => by cases h) (fun h => by cases h) hk0 hk1 hkk0 hkk1 (by simp [hprim]) h1 h2 h3
    (by rw [nn sp h1, nn n h3]; show ¬ _ > ((arrV (G.2.1 t) n0 (fun j => .int (f j))).slots.size : Int); rw [arrV_size]; omega)
    (by rw [nn dp h2, nn n h3]; show ¬ _ > ((arrV (G.2.1 t) n1 (fun j => .int (g j))).slots.size : Int); rw [arrV_size]; omega)
    (fun vm₁ _ i hi => by
      have e : (vp_cell (G.2.1 t) (n0, .inl f)).slots.getD (sp.toNatClampNeg + i) .null = .int (f (sp.toNatClampNeg + i)) := by
        show (arrV (G.2.1 t) n0 (fun j => .int (f j))).slots.getD _ _ = _
        rw [Array.getD_eq_getD_getElem?, arrV_read _ _ (by omega)]
        rfl
      refine ⟨?_, ?_⟩
      · rw [e]
        exact hfit i hi
      · rw [e]
        exact trivial)
    (g := F0 m pc ls (.int n :: .int dp :: .ref a :: .int sp :: .ref a0 :: rest)) rfl (by rw [hml]) (rest := rest) rfl (by rw [hb]; exact hdg) hframes (by show 2 * 0 + _ + _ ≤ _; omega)
  have e1 : copied (vp_cell (G.2.1 t) (n0, .inl f)) (vp_cell (G.2.1 t) (n1, .inl g)) sp dp n = vp_cell (G.2.1 t) (n1, .inl (va_cpy f g sp.toNatClampNeg dp.toNatClampNeg n.toNatClampNeg)) := va_copied (fun z => .int z) (G.2.1 t) (G.2.1 t) f g h4
  rw [e1] at X' step
  have hl : a < H.size := (Array.getElem?_eq_some_iff.mp hc1).1
  have hheap : ((T.setVm vm').setCell a (vp_cell (G.2.1 t) (n1, .inl (va_cpy f g sp.toNatClampNeg dp.toNatClampNeg n.toNatClampNeg)))).heap = H.setIfInBounds a (vp_cell (G.2.1 t) (n1, .inl (va_cpy f g sp.toNatClampNeg dp.toNatClampNeg n.toNatClampNeg))) := by rw [← hT]; rfl
  have oq : ∀ q : Nat, q ≠ a → (H.setIfInBounds a (vp_cell (G.2.1 t) (n1, .inl (va_cpy f g sp.toNatClampNeg dp.toNatClampNeg n.toNatClampNeg))))[q]? = H[q]? := fun q hq => by simp [Array.getElem?_setIfInBounds, Ne.symm hq]
  obtain ⟨t2, a1, b1⟩ := kk _ _ ⟨hw.1.set (fun _ => hA) (show (H.setIfInBounds a _)[a]? = some _ by simp [Array.getElem?_setIfInBounds, hl]) (by simp) oq, ⟨by simp; exact hS.1, fun q g1 g2 => by
      rw [oq q (fun e => g2 (by rw [e]; exact hA))]
      exact hS.2.1 q g1 g2, fun q hq => by
      rcases List.mem_append.mp hq with h | h
      · exact hS.2.2 q h
      · obtain ⟨z, -, hz⟩ := List.mem_map.mp h
        rw [← hz]
        exact hA⟩⟩ _ hheap X'
  exact ⟨t2, step t2 a1, b1⟩
end EPR2
