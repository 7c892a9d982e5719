/-! ===== rows over what was there before: the breeds, Strings ===== -/
set_option maxRecDepth 100000
/-- a place of BREEDS -/
def bck (b : Int32) : Option Unit := if ¬ b < 0 ∧ b.toNatClampNeg < 4 then some () else none
theorem bck_s {b : Int32} {u : Unit} (e : bck b = some u) : vp_in b 4 := by
  unfold bck at e
  split at e
  · rename_i hc
    exact fun q => q.elim hc.1 (fun z => absurd hc.2 (Nat.not_lt.mpr z))
  · cases e
/-- a place of NAMES -/
def nck (b : Int32) : Option Nat := if ¬ b < 0 ∧ b.toNatClampNeg < 6 then some (1 + b.toNatClampNeg) else none
theorem nck_s {b : Int32} {k : Nat} (e : nck b = some k) : vp_in b 6 ∧ k = 1 + b.toNatClampNeg := by
  unfold nck at e
  split at e
  · rename_i hc
    cases e
    exact ⟨fun q => q.elim hc.1 (fun z => absurd hc.2 (Nat.not_lt.mpr z)), rfl⟩
  · cases e
/-- a String's length, and a byte of it -/
def sLen (k : Nat) : Option Int32 := if k < 7 then some (Int32.ofNat (ep_len.getD k 0)) else none
def sByt (k : Nat) (i : Int32) : Option Int32 := if k < 7 ∧ ¬ i < 0 ∧ i.toNatClampNeg < ep_len.getD k 0 then some ((ep_byt.getD k []).getD i.toNatClampNeg 0) else none
theorem sLen_s {k : Nat} {x : Int32} (e : sLen k = some x) : k < 7 ∧ Int32.ofNat (ep_len.getD k 0) = x := by
  unfold sLen at e
  split at e
  · rename_i hc
    cases e
    exact ⟨hc, rfl⟩
  · cases e
theorem sByt_s {k : Nat} {i x : Int32} (e : sByt k i = some x) : k < 7 ∧ vp_in i (ep_len.getD k 0) ∧ (ep_byt.getD k []).getD i.toNatClampNeg 0 = x := by
  unfold sByt at e
  split at e
  · rename_i hc
    cases e
    exact ⟨hc.1, fun q => q.elim hc.2.1 (fun z => absurd hc.2.2 (Nat.not_lt.mpr z)), rfl⟩
  · cases e
def sCk (k : Nat) : Option Unit := if k < 7 then some () else none
theorem sCk_s {k : Nat} {u : Unit} (e : sCk k = some u) : k < 7 := by
  unfold sCk at e
  split at e
  · assumption
  · cases e
section EPO
variable {p : Program} {l : Launch} {e : Env} {R : Room} {s : State} {m : MethodId} {args : Array Value} {below : List Frame} {meth : Method} {c : Code} {H : Heap} {locs : List Loc} {cells slots : Nat} {Q : State → Prop}
variable {cc : ByteArray} {pc : Nat} {ls : Array Slot} {rest : List Value} {G : EG} {cl : List vw_C} {a : Nat} {h h' : Hp}
theorem ep_breeds (hexec : p.tables.exec = Jvm.exec) (hb : c.code = cc) {own host : String} {index : Nat} (hown : s.vm.findClass own = some m.cls) (hK : ep_K G cl s) (hZ : ep_Z G s s.heap) (hw : ep_W G cl h s H locs) (hlink : Cond.fieldLinkNest own index "EchoPens" "BREEDS" "[LEchoPens$Plain;" host ∈ lw_tbl) (hdg : decode cc pc = .ok (.getstatic index, 3))
    (kk : W p l e R s m args below meth c H locs cells slots Q (F0 m (pc + 3) ls (.ref (G.2.2.2 0) :: rest))) : W p l e R s m args below meth c H locs cells slots Q (F0 m pc ls rest) :=
  va_getsN hexec hb hZ.1.1 hw.2 hown (hK.nestU hlink rfl) (fun _ q => q) hdg kk
theorem ep_names (hexec : p.tables.exec = Jvm.exec) (hb : c.code = cc) {own host : String} {index : Nat} (hown : s.vm.findClass own = some m.cls) (hK : ep_K G cl s) (hZ : ep_Z G s s.heap) (hw : ep_W G cl h s H locs) (hlink : Cond.fieldLinkNest own index "EchoPens" "NAMES" "[Ljava/lang/String;" host ∈ lw_tbl) (hdg : decode cc pc = .ok (.getstatic index, 3))
    (kk : W p l e R s m args below meth c H locs cells slots Q (F0 m (pc + 3) ls (.ref (G.2.2.2 1) :: rest))) : W p l e R s m args below meth c H locs cells slots Q (F0 m pc ls rest) :=
  va_getsN hexec hb hZ.1.2.1 hw.2 hown (hK.nestU hlink rfl) (fun _ q => q) hdg kk
theorem ep_compact (hexec : p.tables.exec = Jvm.exec) (hb : c.code = cc) (hts : ∀ w ∈ lw_all, w.before args s = true) {own : String} {index : Nat} (hown : s.vm.findClass own = some m.cls) (hZ : ep_Z G s s.heap) (hw : ep_W G cl h s H locs) (hlink : Cond.fieldLink own index "java/lang/String" "COMPACT_STRINGS" "Z" ∈ lw_all) (hdg : decode cc pc = .ok (.getstatic index, 3))
    (kk : W p l e R s m args below meth c H locs cells slots Q (F0 m (pc + 3) ls (.int 1 :: rest))) : W p l e R s m args below meth c H locs cells slots Q (F0 m pc ls rest) :=
  va_gets hexec hb hZ.1.2.2.1 hw.2 hown (hts _ hlink) (fun _ q => q) hdg kk
theorem ep_breed {b : Int32} {u : Unit} (hexec : p.tables.exec = Jvm.exec) (hb : c.code = cc) (hZ : ep_Z G s s.heap) (hw : ep_W G cl h s H locs) (hv : bck b = some u) (hdg : decode cc pc = .ok (.aaload, 1))
    (kk : W p l e R s m args below meth c H locs cells slots Q (F0 m (pc + 1) ls (.ref (G.2.2.2 (2 + b.toNatClampNeg)) :: rest))) : W p l e R s m args below meth c H locs cells slots Q (F0 m pc ls (.int b :: .ref (G.2.2.2 0) :: rest)) :=
  vb_tq hexec hb hZ.2.1.2.2.1 hw.2 (bck_s hv) rfl hdg kk
theorem ep_nameAt {b : Int32} {k : Nat} (hexec : p.tables.exec = Jvm.exec) (hb : c.code = cc) (hZ : ep_Z G s s.heap) (hw : ep_W G cl h s H locs) (hv : nck b = some k) (hdg : decode cc pc = .ok (.aaload, 1))
    (kk : W p l e R s m args below meth c H locs cells slots Q (F0 m (pc + 1) ls (.ref (G.2.2.2 (10 + k)) :: rest))) : W p l e R s m args below meth c H locs cells slots Q (F0 m pc ls (.int b :: .ref (G.2.2.2 1) :: rest)) := by
  obtain ⟨h1, h2⟩ := nck_s hv
  exact vb_tq hexec hb hZ.2.1.2.1 hw.2 h1 (by rw [h2, ← Nat.add_assoc]) hdg kk
theorem ep_nameLen (hexec : p.tables.exec = Jvm.exec) (hb : c.code = cc) (hZ : ep_Z G s s.heap) (hw : ep_W G cl h s H locs) (hdg : decode cc pc = .ok (.arraylength, 1))
    (kk : W p l e R s m args below meth c H locs cells slots Q (F0 m (pc + 1) ls (.int (iI 6) :: rest))) : W p l e R s m args below meth c H locs cells slots Q (F0 m pc ls (.ref (G.2.2.2 1) :: rest)) :=
  va_tlen hexec hb hZ.2.1.2.1 hw.2 (by decide) hdg kk
theorem ep_sval {k : Nat} (hk : k < 7) (hexec : p.tables.exec = Jvm.exec) (hb : c.code = cc) (hts : ∀ w ∈ lw_all, w.before args s = true) {own : String} {index : Nat} (hown : s.vm.findClass own = some m.cls) (hZ : ep_Z G s s.heap) (hw : ep_W G cl h s H locs) (hlink : Cond.fieldLink own index "java/lang/String" "value" "[B" ∈ lw_all) (hdg : decode cc pc = .ok (.getfield index, 3))
    (kk : W p l e R s m args below meth c H locs cells slots Q (F0 m (pc + 3) ls (.ref (G.2.2.2 (20 + k)) :: rest))) : W p l e R s m args below meth c H locs cells slots Q (F0 m pc ls (.ref (G.2.2.2 (10 + k)) :: rest)) :=
  vk_getf hexec hb (hZ.2.1.1.1 k hk).2.2.1 hw.2 hown (hts _ hlink) (fun _ q => q) hdg kk
theorem ep_scod {k : Nat} (hk : k < 7) (hexec : p.tables.exec = Jvm.exec) (hb : c.code = cc) (hts : ∀ w ∈ lw_all, w.before args s = true) {own : String} {index : Nat} (hown : s.vm.findClass own = some m.cls) (hZ : ep_Z G s s.heap) (hw : ep_W G cl h s H locs) (hlink : Cond.fieldLink own index "java/lang/String" "coder" "B" ∈ lw_all) (hdg : decode cc pc = .ok (.getfield index, 3))
    (kk : W p l e R s m args below meth c H locs cells slots Q (F0 m (pc + 3) ls (.int 0 :: rest))) : W p l e R s m args below meth c H locs cells slots Q (F0 m pc ls (.ref (G.2.2.2 (10 + k)) :: rest)) :=
  vk_getf hexec hb (hZ.2.1.1.1 k hk).2.1 hw.2 hown (hts _ hlink) (fun _ q => q) hdg kk
theorem ep_slen {k : Nat} {x : Int32} (hexec : p.tables.exec = Jvm.exec) (hb : c.code = cc) (hZ : ep_Z G s s.heap) (hw : ep_W G cl h s H locs) (hv : sLen k = some x) (hdg : decode cc pc = .ok (.arraylength, 1))
    (kk : W p l e R s m args below meth c H locs cells slots Q (F0 m (pc + 1) ls (.int x :: rest))) : W p l e R s m args below meth c H locs cells slots Q (F0 m pc ls (.ref (G.2.2.2 (20 + k)) :: rest)) :=
  va_tlen hexec hb (hZ.2.1.1.1 k (sLen_s hv).1).2.2.2 hw.2 (sLen_s hv).2 hdg kk
theorem ep_sbyt {k : Nat} {i x : Int32} (hexec : p.tables.exec = Jvm.exec) (hb : c.code = cc) (hZ : ep_Z G s s.heap) (hw : ep_W G cl h s H locs) (hv : sByt k i = some x) (hdg : decode cc pc = .ok (.baload, 1))
    (kk : W p l e R s m args below meth c H locs cells slots Q (F0 m (pc + 1) ls (.int x :: rest))) : W p l e R s m args below meth c H locs cells slots Q (F0 m pc ls (.int i :: .ref (G.2.2.2 (20 + k)) :: rest)) :=
  va_tb hexec hb (hZ.2.1.1.1 k (sByt_s hv).1).2.2.2 hw.2 (sByt_s hv).2.1 (by rw [(sByt_s hv).2.2]) hdg kk
/-- a String's methods are called -/
theorem ep_preK {k : Nat} (hk : k < 7) (hK : ep_K G cl s) (hZ : ep_Z G s s.heap) (hw : ep_W G cl h s H locs) {As : List Value} : PreV s H "java/lang/String" (G.2.2.2 (10 + k)) (ep_Pc G cl h (.ref (G.2.2.2 (10 + k)) :: As)) As :=
  ⟨ep_blind, vk_recv (adK := fun k => G.2.2.2 (10 + k)) (i := k) hZ.2.1.1 hk hw.2, fun _ hU hW => ⟨rfl, ep_start hK hZ hw hU hW⟩⟩
/-- a breed's methods are called -/
theorem ep_preB {k : Nat} (hk : k < 4) (hK : ep_K G cl s) (hZ : ep_Z G s s.heap) (hw : ep_W G cl h s H locs) {As : List Value} : PreV s H (ep_bn k) (G.2.2.2 (2 + k)) (ep_Pc G cl h (.ref (G.2.2.2 (2 + k)) :: As)) As :=
  ⟨ep_blind, va_Orecv (hZ.2.1.2.2.2 k hk) hw.2, fun _ hU hW => ⟨rfl, ep_start hK hZ hw hU hW⟩⟩
end EPO
