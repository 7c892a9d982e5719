/-! walks (printed by gen.py) -/
set_option maxRecDepth 100000
theorem ep_brAt {G : EG} {s : State} {k : Nat} (hk : k < 4) (hK : ep_K G ep_cl s) : ClassAt s (ep_bn k) (G.1.1 (match k with | 0 => 8 | 1 => 10 | 2 => 9 | _ => 11)) := by
  match k, hk with
  | 0, _ => exact (hK.1 8 _ rfl).2
  | 1, _ => exact (hK.1 10 _ rfl).2
  | 2, _ => exact (hK.1 9 _ rfl).2
  | 3, _ => exact (hK.1 11 _ rfl).2
  | k + 4, hk => exact absurd hk (by omega)
theorem hs_returns : ("EchoPens$Plain" : String) ≠ "java/lang/invoke/MethodHandle" ∧ ("EchoPens$Plain" : String) ≠ "java/lang/invoke/VarHandle" ∧ (parseMethodDescriptor yX8_returns.desc).map (fun d => d.parameters.length) = some 2 := by decide +kernel
theorem hs_gain : ("EchoPens$Plain" : String) ≠ "java/lang/invoke/MethodHandle" ∧ ("EchoPens$Plain" : String) ≠ "java/lang/invoke/VarHandle" ∧ (parseMethodDescriptor yX8_gain.desc).map (fun d => d.parameters.length) = some 1 := by decide +kernel
theorem hs_spoils : ("EchoPens$Plain" : String) ≠ "java/lang/invoke/MethodHandle" ∧ ("EchoPens$Plain" : String) ≠ "java/lang/invoke/VarHandle" ∧ (parseMethodDescriptor yX8_spoils.desc).map (fun d => d.parameters.length) = some 0 := by decide +kernel
theorem hdX8_returns : yX8_returns.cls = RX8 ∧ yX8_returns.cls ≠ "java/lang/invoke/MethodHandle" ∧ yX8_returns.cls ≠ "java/lang/invoke/VarHandle" ∧ (parseMethodDescriptor yX8_returns.desc).map (fun d => d.parameters.length) = some 2 := by decide +kernel
theorem hnX8_returns : yX8_returns.name ≠ "<init>" ∧ (parseMethodDescriptor yX8_returns.desc).map (fun d => d.parameters.length) = some 2 := by decide +kernel
abbrev wX8_returns (p : Program) (l : Launch) (e : Env) (s : State) (m : MethodId) (below : List Frame) (meth : Method) (c : Code) (G : EG) (h : Hp) (k0 : Nat) (x1 : Int32) (x2 : Int32) (res : Int32) (k9 n9 : Nat) (H : Heap) (locs : List Loc) (g : JFrame) : Prop := W p l e (headSpec (ws_ yX8_returns cX8_returns 3 (some .int)) ({ frames := 0, cells := 0, slots := 0, locals := 0 } : Room)).room s m ([.ref (G.2.2.2 (2 + k0)), .int x1, .int x2] : List Value).toArray below meth c H locs k9 n9 (MQ below (ep_Qi G ep_cl h res) ([.ref (G.2.2.2 (2 + k0)), .int x1, .int x2] : List Value).toArray s 0 0 (ep_A G)) g
set_option maxHeartbeats 4000000 in
theorem metX8_returns (l : Launch) (G : EG) (h : Hp) (k0 : Nat) (x1 : Int32) (x2 : Int32) {res : Int32} (hf : fX8_returns x1 x2 = some res) (hk0 : k0 < 4) : MetC l yX8_returns (ws_ yX8_returns cX8_returns 3 (some .int)) ({ frames := 0, cells := 0, slots := 0, locals := 0 } : Room) (ep_Pc G ep_cl h [.ref (G.2.2.2 (2 + k0)), .int x1, .int x2]) (ep_Qi G ep_cl h res) 0 0 (ep_A G) := by
  refine MetC.ofW (cc := cX8_returns) (maxL := 3) (ret := (some .int)) (by decide) rfl ?_
  intro p e s m args below meth c hx hb hr hlocks hml hpre hnm hv
  obtain ⟨rfl, hR, hK, hZ⟩ := hv
  have hts := atoms_spec (ws := (ws_ yX8_returns cX8_returns 3 (some .int))) hpre
  have hts : ∀ w ∈ lw_all, w.before _ s = true := fun w h => hts w (List.mem_cons_of_mem _ h)
  have hown : s.vm.findClass RX8 = some m.cls := findClass_of_methodNamed hnm
  have hw : ep_W G ep_cl h s s.heap [] := ⟨hR, va_S.rf⟩
  have hl := lv_entry ([.ref (G.2.2.2 (2 + k0)), .int x1, .int x2]) (n := 3) (Nat.le_of_ble_eq_true rfl)
  rw [lg_entry_eq]
  generalize (lg_sl ([.ref (G.2.2.2 (2 + k0)), .int x1, .int x2]) ++ List.replicate (3 - (lg_sl ([.ref (G.2.2.2 (2 + k0)), .int x1, .int x2])).length) Slot.unset).toArray = ls at hl ⊢
  have hl : lv_has ls 3 [(0, .ref (G.2.2.2 (2 + k0))), (1, .int x1), (2, .int x2)] := hl
  unfold fX8_returns at hf
  show wX8_returns p l e s m below meth c G h k0 x1 x2 res 0 0 s.heap ([]) (F0 m 0 ls [])
  refine lv_iload_n hx hb dX8_returns_0 rfl (lv_at hl 1 rfl) ?_
  refine lv_iload_n hx hb dX8_returns_1 rfl (lv_at hl 2 rfl) ?_
  obtain ⟨v1, ev1, hf⟩ := ob_s hf
  refine ep_idiv hx hb ev1 dX8_returns_2 ?_
  exact ep_retiR hx hb hr hlocks hw hf dX8_returns_3
theorem hdX8_spoils : yX8_spoils.cls = RX8 ∧ yX8_spoils.cls ≠ "java/lang/invoke/MethodHandle" ∧ yX8_spoils.cls ≠ "java/lang/invoke/VarHandle" ∧ (parseMethodDescriptor yX8_spoils.desc).map (fun d => d.parameters.length) = some 0 := by decide +kernel
theorem hnX8_spoils : yX8_spoils.name ≠ "<init>" ∧ (parseMethodDescriptor yX8_spoils.desc).map (fun d => d.parameters.length) = some 0 := by decide +kernel
abbrev wX8_spoils (p : Program) (l : Launch) (e : Env) (s : State) (m : MethodId) (below : List Frame) (meth : Method) (c : Code) (G : EG) (h : Hp) (k0 : Nat) (res : Int32) (k9 n9 : Nat) (H : Heap) (locs : List Loc) (g : JFrame) : Prop := W p l e (headSpec (ws_ yX8_spoils cX8_spoils 1 (some .boolean)) ({ frames := 0, cells := 0, slots := 0, locals := 0 } : Room)).room s m ([.ref (G.2.2.2 (2 + k0))] : List Value).toArray below meth c H locs k9 n9 (MQ below (ep_Qi G ep_cl h res) ([.ref (G.2.2.2 (2 + k0))] : List Value).toArray s 0 0 (ep_A G)) g
set_option maxHeartbeats 4000000 in
theorem metX8_spoils (l : Launch) (G : EG) (h : Hp) (k0 : Nat) {res : Int32} (hf : fX8_spoils = some res) (hk0 : k0 < 4) : MetC l yX8_spoils (ws_ yX8_spoils cX8_spoils 1 (some .boolean)) ({ frames := 0, cells := 0, slots := 0, locals := 0 } : Room) (ep_Pc G ep_cl h [.ref (G.2.2.2 (2 + k0))]) (ep_Qi G ep_cl h res) 0 0 (ep_A G) := by
  refine MetC.ofW (cc := cX8_spoils) (maxL := 1) (ret := (some .boolean)) (by decide) rfl ?_
  intro p e s m args below meth c hx hb hr hlocks hml hpre hnm hv
  obtain ⟨rfl, hR, hK, hZ⟩ := hv
  have hts := atoms_spec (ws := (ws_ yX8_spoils cX8_spoils 1 (some .boolean))) hpre
  have hts : ∀ w ∈ lw_all, w.before _ s = true := fun w h => hts w (List.mem_cons_of_mem _ h)
  have hown : s.vm.findClass RX8 = some m.cls := findClass_of_methodNamed hnm
  have hw : ep_W G ep_cl h s s.heap [] := ⟨hR, va_S.rf⟩
  have hl := lv_entry ([.ref (G.2.2.2 (2 + k0))]) (n := 1) (Nat.le_of_ble_eq_true rfl)
  rw [lg_entry_eq]
  generalize (lg_sl ([.ref (G.2.2.2 (2 + k0))]) ++ List.replicate (1 - (lg_sl ([.ref (G.2.2.2 (2 + k0))])).length) Slot.unset).toArray = ls at hl ⊢
  have hl : lv_has ls 1 [(0, .ref (G.2.2.2 (2 + k0)))] := hl
  unfold fX8_spoils at hf
  show wX8_spoils p l e s m below meth c G h k0 res 0 0 s.heap ([]) (F0 m 0 ls [])
  refine lv_iconst (v := iI 0) hx hb dX8_spoils_0 rfl ?_
  exact ep_retzR hx hb hr rfl hlocks hw hf dX8_spoils_1
theorem hdX8_gain : yX8_gain.cls = RX8 ∧ yX8_gain.cls ≠ "java/lang/invoke/MethodHandle" ∧ yX8_gain.cls ≠ "java/lang/invoke/VarHandle" ∧ (parseMethodDescriptor yX8_gain.desc).map (fun d => d.parameters.length) = some 1 := by decide +kernel
theorem hnX8_gain : yX8_gain.name ≠ "<init>" ∧ (parseMethodDescriptor yX8_gain.desc).map (fun d => d.parameters.length) = some 1 := by decide +kernel
abbrev wX8_gain (p : Program) (l : Launch) (e : Env) (s : State) (m : MethodId) (below : List Frame) (meth : Method) (c : Code) (G : EG) (h : Hp) (k0 : Nat) (x1 : Int32) (res : Int32) (k9 n9 : Nat) (H : Heap) (locs : List Loc) (g : JFrame) : Prop := W p l e (headSpec (ws_ yX8_gain cX8_gain 2 (some .int)) ({ frames := 0, cells := 0, slots := 0, locals := 0 } : Room)).room s m ([.ref (G.2.2.2 (2 + k0)), .int x1] : List Value).toArray below meth c H locs k9 n9 (MQ below (ep_Qi G ep_cl h res) ([.ref (G.2.2.2 (2 + k0)), .int x1] : List Value).toArray s 0 0 (ep_A G)) g
set_option maxHeartbeats 4000000 in
theorem metX8_gain (l : Launch) (G : EG) (h : Hp) (k0 : Nat) (x1 : Int32) {res : Int32} (hf : fX8_gain x1 = some res) (hk0 : k0 < 4) : MetC l yX8_gain (ws_ yX8_gain cX8_gain 2 (some .int)) ({ frames := 0, cells := 0, slots := 0, locals := 0 } : Room) (ep_Pc G ep_cl h [.ref (G.2.2.2 (2 + k0)), .int x1]) (ep_Qi G ep_cl h res) 0 0 (ep_A G) := by
  refine MetC.ofW (cc := cX8_gain) (maxL := 2) (ret := (some .int)) (by decide) rfl ?_
  intro p e s m args below meth c hx hb hr hlocks hml hpre hnm hv
  obtain ⟨rfl, hR, hK, hZ⟩ := hv
  have hts := atoms_spec (ws := (ws_ yX8_gain cX8_gain 2 (some .int))) hpre
  have hts : ∀ w ∈ lw_all, w.before _ s = true := fun w h => hts w (List.mem_cons_of_mem _ h)
  have hown : s.vm.findClass RX8 = some m.cls := findClass_of_methodNamed hnm
  have hw : ep_W G ep_cl h s s.heap [] := ⟨hR, va_S.rf⟩
  have hl := lv_entry ([.ref (G.2.2.2 (2 + k0)), .int x1]) (n := 2) (Nat.le_of_ble_eq_true rfl)
  rw [lg_entry_eq]
  generalize (lg_sl ([.ref (G.2.2.2 (2 + k0)), .int x1]) ++ List.replicate (2 - (lg_sl ([.ref (G.2.2.2 (2 + k0)), .int x1])).length) Slot.unset).toArray = ls at hl ⊢
  have hl : lv_has ls 2 [(0, .ref (G.2.2.2 (2 + k0))), (1, .int x1)] := hl
  unfold fX8_gain at hf
  show wX8_gain p l e s m below meth c G h k0 x1 res 0 0 s.heap ([]) (F0 m 0 ls [])
  refine lv_iload_n hx hb dX8_gain_0 rfl (lv_at hl 1 rfl) ?_
  exact ep_retiR hx hb hr hlocks hw hf dX8_gain_1
theorem hdX10_returns : yX10_returns.cls = RX10 ∧ yX10_returns.cls ≠ "java/lang/invoke/MethodHandle" ∧ yX10_returns.cls ≠ "java/lang/invoke/VarHandle" ∧ (parseMethodDescriptor yX10_returns.desc).map (fun d => d.parameters.length) = some 2 := by decide +kernel
theorem hnX10_returns : yX10_returns.name ≠ "<init>" ∧ (parseMethodDescriptor yX10_returns.desc).map (fun d => d.parameters.length) = some 2 := by decide +kernel
abbrev wX10_returns (p : Program) (l : Launch) (e : Env) (s : State) (m : MethodId) (below : List Frame) (meth : Method) (c : Code) (G : EG) (h : Hp) (k0 : Nat) (x1 : Int32) (x2 : Int32) (res : Int32) (k9 n9 : Nat) (H : Heap) (locs : List Loc) (g : JFrame) : Prop := W p l e (headSpec (ws_ yX10_returns cX10_returns 3 (some .int)) ({ frames := 1, cells := 0, slots := 0, locals := 22 } : Room)).room s m ([.ref (G.2.2.2 (2 + k0)), .int x1, .int x2] : List Value).toArray below meth c H locs k9 n9 (MQ below (ep_Qi G ep_cl h res) ([.ref (G.2.2.2 (2 + k0)), .int x1, .int x2] : List Value).toArray s 0 0 (ep_A G)) g
set_option maxHeartbeats 4000000 in
theorem metX10_returns (l : Launch) (G : EG) (h : Hp) (k0 : Nat) (x1 : Int32) (x2 : Int32) {res : Int32} (hf : fX10_returns x1 x2 = some res) (hk0 : k0 < 4) : MetC l yX10_returns (ws_ yX10_returns cX10_returns 3 (some .int)) ({ frames := 1, cells := 0, slots := 0, locals := 22 } : Room) (ep_Pc G ep_cl h [.ref (G.2.2.2 (2 + k0)), .int x1, .int x2]) (ep_Qi G ep_cl h res) 0 0 (ep_A G) := by
  refine MetC.ofW (cc := cX10_returns) (maxL := 3) (ret := (some .int)) (by decide) rfl ?_
  intro p e s m args below meth c hx hb hr hlocks hml hpre hnm hv
  obtain ⟨rfl, hR, hK, hZ⟩ := hv
  have hts := atoms_spec (ws := (ws_ yX10_returns cX10_returns 3 (some .int))) hpre
  have hts : ∀ w ∈ lw_all, w.before _ s = true := fun w h => hts w (List.mem_cons_of_mem _ h)
  have hown : s.vm.findClass RX10 = some m.cls := findClass_of_methodNamed hnm
  have hw : ep_W G ep_cl h s s.heap [] := ⟨hR, va_S.rf⟩
  have hl := lv_entry ([.ref (G.2.2.2 (2 + k0)), .int x1, .int x2]) (n := 3) (Nat.le_of_ble_eq_true rfl)
  rw [lg_entry_eq]
  generalize (lg_sl ([.ref (G.2.2.2 (2 + k0)), .int x1, .int x2]) ++ List.replicate (3 - (lg_sl ([.ref (G.2.2.2 (2 + k0)), .int x1, .int x2])).length) Slot.unset).toArray = ls at hl ⊢
  have hl : lv_has ls 3 [(0, .ref (G.2.2.2 (2 + k0))), (1, .int x1), (2, .int x2)] := hl
  unfold fX10_returns at hf
  show wX10_returns p l e s m below meth c G h k0 x1 x2 res 0 0 s.heap ([]) (F0 m 0 ls [])
  refine lv_iconst (v := iI 2) hx hb dX10_returns_0 rfl ?_
  refine lv_aload_n hx hb dX10_returns_1 rfl (lv_at hl 0 rfl) ?_
  refine lv_iload_n hx hb dX10_returns_2 rfl (lv_at hl 1 rfl) ?_
  refine lv_iload_n hx hb dX10_returns_3 rfl (lv_at hl 2 rfl) ?_
  obtain ⟨v1, ev1, hf⟩ := ob_s hf
  refine ep_calli0 (ep_runSUC (x := ⟨"EchoPens$Plain", "returns", "(II)I"⟩) (As := [.int x1, .int x2]) (rest := [.int (iI 2)]) (ep_brAt hk0 hK) ⟨hx, hb, hml, hown, hts⟩ (metX8_returns l G h k0 x1 x2 ev1 hk0) rfl rfl ⟨Nat.le_of_ble_eq_true rfl, Nat.le_of_ble_eq_true rfl⟩ ⟨rfl, rfl⟩ q597 q588 q598 (Or.inl rfl) q586 q604 hnX8_returns (ep_preB hk0 hK hZ hw) rfl rfl hl.1 rfl (lv_room (Nat.le_of_ble_eq_true rfl)) dX10_returns_4 ⟨Nat.le_of_ble_eq_true rfl, Nat.le_of_ble_eq_true rfl⟩) hw (fun H locs hw => ?_)
  refine lv_imul hx hb dX10_returns_7 ?_
  exact ep_retiR hx hb hr hlocks hw hf dX10_returns_8
theorem hdX10_gain : yX10_gain.cls = RX10 ∧ yX10_gain.cls ≠ "java/lang/invoke/MethodHandle" ∧ yX10_gain.cls ≠ "java/lang/invoke/VarHandle" ∧ (parseMethodDescriptor yX10_gain.desc).map (fun d => d.parameters.length) = some 1 := by decide +kernel
theorem hnX10_gain : yX10_gain.name ≠ "<init>" ∧ (parseMethodDescriptor yX10_gain.desc).map (fun d => d.parameters.length) = some 1 := by decide +kernel
abbrev wX10_gain (p : Program) (l : Launch) (e : Env) (s : State) (m : MethodId) (below : List Frame) (meth : Method) (c : Code) (G : EG) (h : Hp) (k0 : Nat) (x1 : Int32) (res : Int32) (k9 n9 : Nat) (H : Heap) (locs : List Loc) (g : JFrame) : Prop := W p l e (headSpec (ws_ yX10_gain cX10_gain 2 (some .int)) ({ frames := 1, cells := 0, slots := 0, locals := 21 } : Room)).room s m ([.ref (G.2.2.2 (2 + k0)), .int x1] : List Value).toArray below meth c H locs k9 n9 (MQ below (ep_Qi G ep_cl h res) ([.ref (G.2.2.2 (2 + k0)), .int x1] : List Value).toArray s 0 0 (ep_A G)) g
set_option maxHeartbeats 4000000 in
theorem metX10_gain (l : Launch) (G : EG) (h : Hp) (k0 : Nat) (x1 : Int32) {res : Int32} (hf : fX10_gain x1 = some res) (hk0 : k0 < 4) : MetC l yX10_gain (ws_ yX10_gain cX10_gain 2 (some .int)) ({ frames := 1, cells := 0, slots := 0, locals := 21 } : Room) (ep_Pc G ep_cl h [.ref (G.2.2.2 (2 + k0)), .int x1]) (ep_Qi G ep_cl h res) 0 0 (ep_A G) := by
  refine MetC.ofW (cc := cX10_gain) (maxL := 2) (ret := (some .int)) (by decide) rfl ?_
  intro p e s m args below meth c hx hb hr hlocks hml hpre hnm hv
  obtain ⟨rfl, hR, hK, hZ⟩ := hv
  have hts := atoms_spec (ws := (ws_ yX10_gain cX10_gain 2 (some .int))) hpre
  have hts : ∀ w ∈ lw_all, w.before _ s = true := fun w h => hts w (List.mem_cons_of_mem _ h)
  have hown : s.vm.findClass RX10 = some m.cls := findClass_of_methodNamed hnm
  have hw : ep_W G ep_cl h s s.heap [] := ⟨hR, va_S.rf⟩
  have hl := lv_entry ([.ref (G.2.2.2 (2 + k0)), .int x1]) (n := 2) (Nat.le_of_ble_eq_true rfl)
  rw [lg_entry_eq]
  generalize (lg_sl ([.ref (G.2.2.2 (2 + k0)), .int x1]) ++ List.replicate (2 - (lg_sl ([.ref (G.2.2.2 (2 + k0)), .int x1])).length) Slot.unset).toArray = ls at hl ⊢
  have hl : lv_has ls 2 [(0, .ref (G.2.2.2 (2 + k0))), (1, .int x1)] := hl
  unfold fX10_gain at hf
  show wX10_gain p l e s m below meth c G h k0 x1 res 0 0 s.heap ([]) (F0 m 0 ls [])
  refine lv_iconst (v := iI 2) hx hb dX10_gain_0 rfl ?_
  refine lv_aload_n hx hb dX10_gain_1 rfl (lv_at hl 0 rfl) ?_
  refine lv_iload_n hx hb dX10_gain_2 rfl (lv_at hl 1 rfl) ?_
  obtain ⟨v1, ev1, hf⟩ := ob_s hf
  refine ep_calli0 (ep_runSUC (x := ⟨"EchoPens$Plain", "gain", "(I)I"⟩) (As := [.int x1]) (rest := [.int (iI 2)]) (ep_brAt hk0 hK) ⟨hx, hb, hml, hown, hts⟩ (metX8_gain l G h k0 x1 ev1 hk0) rfl rfl ⟨Nat.le_of_ble_eq_true rfl, Nat.le_of_ble_eq_true rfl⟩ ⟨rfl, rfl⟩ q714 q705 q598 (Or.inl rfl) q703 q716 hnX8_gain (ep_preB hk0 hK hZ hw) rfl rfl hl.1 rfl (lv_room (Nat.le_of_ble_eq_true rfl)) dX10_gain_3 ⟨Nat.le_of_ble_eq_true rfl, Nat.le_of_ble_eq_true rfl⟩) hw (fun H locs hw => ?_)
  refine lv_imul hx hb dX10_gain_6 ?_
  exact ep_retiR hx hb hr hlocks hw hf dX10_gain_7
theorem hdX9_returns : yX9_returns.cls = RX9 ∧ yX9_returns.cls ≠ "java/lang/invoke/MethodHandle" ∧ yX9_returns.cls ≠ "java/lang/invoke/VarHandle" ∧ (parseMethodDescriptor yX9_returns.desc).map (fun d => d.parameters.length) = some 2 := by decide +kernel
theorem hnX9_returns : yX9_returns.name ≠ "<init>" ∧ (parseMethodDescriptor yX9_returns.desc).map (fun d => d.parameters.length) = some 2 := by decide +kernel
abbrev wX9_returns (p : Program) (l : Launch) (e : Env) (s : State) (m : MethodId) (below : List Frame) (meth : Method) (c : Code) (G : EG) (h : Hp) (k0 : Nat) (x1 : Int32) (x2 : Int32) (res : Int32) (k9 n9 : Nat) (H : Heap) (locs : List Loc) (g : JFrame) : Prop := W p l e (headSpec (ws_ yX9_returns cX9_returns 3 (some .int)) ({ frames := 1, cells := 0, slots := 0, locals := 22 } : Room)).room s m ([.ref (G.2.2.2 (2 + k0)), .int x1, .int x2] : List Value).toArray below meth c H locs k9 n9 (MQ below (ep_Qi G ep_cl h res) ([.ref (G.2.2.2 (2 + k0)), .int x1, .int x2] : List Value).toArray s 0 0 (ep_A G)) g
set_option maxHeartbeats 4000000 in
theorem metX9_returns (l : Launch) (G : EG) (h : Hp) (k0 : Nat) (x1 : Int32) (x2 : Int32) {res : Int32} (hf : fX9_returns x1 x2 = some res) (hk0 : k0 < 4) : MetC l yX9_returns (ws_ yX9_returns cX9_returns 3 (some .int)) ({ frames := 1, cells := 0, slots := 0, locals := 22 } : Room) (ep_Pc G ep_cl h [.ref (G.2.2.2 (2 + k0)), .int x1, .int x2]) (ep_Qi G ep_cl h res) 0 0 (ep_A G) := by
  refine MetC.ofW (cc := cX9_returns) (maxL := 3) (ret := (some .int)) (by decide) rfl ?_
  intro p e s m args below meth c hx hb hr hlocks hml hpre hnm hv
  obtain ⟨rfl, hR, hK, hZ⟩ := hv
  have hts := atoms_spec (ws := (ws_ yX9_returns cX9_returns 3 (some .int))) hpre
  have hts : ∀ w ∈ lw_all, w.before _ s = true := fun w h => hts w (List.mem_cons_of_mem _ h)
  have hown : s.vm.findClass RX9 = some m.cls := findClass_of_methodNamed hnm
  have hw : ep_W G ep_cl h s s.heap [] := ⟨hR, va_S.rf⟩
  have hl := lv_entry ([.ref (G.2.2.2 (2 + k0)), .int x1, .int x2]) (n := 3) (Nat.le_of_ble_eq_true rfl)
  rw [lg_entry_eq]
  generalize (lg_sl ([.ref (G.2.2.2 (2 + k0)), .int x1, .int x2]) ++ List.replicate (3 - (lg_sl ([.ref (G.2.2.2 (2 + k0)), .int x1, .int x2])).length) Slot.unset).toArray = ls at hl ⊢
  have hl : lv_has ls 3 [(0, .ref (G.2.2.2 (2 + k0))), (1, .int x1), (2, .int x2)] := hl
  unfold fX9_returns at hf
  show wX9_returns p l e s m below meth c G h k0 x1 x2 res 0 0 s.heap ([]) (F0 m 0 ls [])
  refine lv_aload_n hx hb dX9_returns_0 rfl (lv_at hl 0 rfl) ?_
  refine lv_iload_n hx hb dX9_returns_1 rfl (lv_at hl 1 rfl) ?_
  refine lv_iload_n hx hb dX9_returns_2 rfl (lv_at hl 2 rfl) ?_
  obtain ⟨v1, ev1, hf⟩ := ob_s hf
  refine ep_calli0 (ep_runSUC (x := ⟨"EchoPens$Plain", "returns", "(II)I"⟩) (As := [.int x1, .int x2]) (rest := []) (ep_brAt hk0 hK) ⟨hx, hb, hml, hown, hts⟩ (metX8_returns l G h k0 x1 x2 ev1 hk0) rfl rfl ⟨Nat.le_of_ble_eq_true rfl, Nat.le_of_ble_eq_true rfl⟩ ⟨rfl, rfl⟩ q592 q588 q593 (Or.inl rfl) q586 q604 hnX8_returns (ep_preB hk0 hK hZ hw) rfl rfl hl.1 rfl (lv_room (Nat.le_of_ble_eq_true rfl)) dX9_returns_3 ⟨Nat.le_of_ble_eq_true rfl, Nat.le_of_ble_eq_true rfl⟩) hw (fun H locs hw => ?_)
  refine lv_iconst (v := iI 1) hx hb dX9_returns_6 rfl ?_
  refine lv_iadd hx hb dX9_returns_7 ?_
  exact ep_retiR hx hb hr hlocks hw hf dX9_returns_8
theorem hdX9_gain : yX9_gain.cls = RX9 ∧ yX9_gain.cls ≠ "java/lang/invoke/MethodHandle" ∧ yX9_gain.cls ≠ "java/lang/invoke/VarHandle" ∧ (parseMethodDescriptor yX9_gain.desc).map (fun d => d.parameters.length) = some 1 := by decide +kernel
theorem hnX9_gain : yX9_gain.name ≠ "<init>" ∧ (parseMethodDescriptor yX9_gain.desc).map (fun d => d.parameters.length) = some 1 := by decide +kernel
abbrev wX9_gain (p : Program) (l : Launch) (e : Env) (s : State) (m : MethodId) (below : List Frame) (meth : Method) (c : Code) (G : EG) (h : Hp) (k0 : Nat) (x1 : Int32) (res : Int32) (k9 n9 : Nat) (H : Heap) (locs : List Loc) (g : JFrame) : Prop := W p l e (headSpec (ws_ yX9_gain cX9_gain 2 (some .int)) ({ frames := 1, cells := 0, slots := 0, locals := 21 } : Room)).room s m ([.ref (G.2.2.2 (2 + k0)), .int x1] : List Value).toArray below meth c H locs k9 n9 (MQ below (ep_Qi G ep_cl h res) ([.ref (G.2.2.2 (2 + k0)), .int x1] : List Value).toArray s 0 0 (ep_A G)) g
set_option maxHeartbeats 4000000 in
theorem metX9_gain (l : Launch) (G : EG) (h : Hp) (k0 : Nat) (x1 : Int32) {res : Int32} (hf : fX9_gain x1 = some res) (hk0 : k0 < 4) : MetC l yX9_gain (ws_ yX9_gain cX9_gain 2 (some .int)) ({ frames := 1, cells := 0, slots := 0, locals := 21 } : Room) (ep_Pc G ep_cl h [.ref (G.2.2.2 (2 + k0)), .int x1]) (ep_Qi G ep_cl h res) 0 0 (ep_A G) := by
  refine MetC.ofW (cc := cX9_gain) (maxL := 2) (ret := (some .int)) (by decide) rfl ?_
  intro p e s m args below meth c hx hb hr hlocks hml hpre hnm hv
  obtain ⟨rfl, hR, hK, hZ⟩ := hv
  have hts := atoms_spec (ws := (ws_ yX9_gain cX9_gain 2 (some .int))) hpre
  have hts : ∀ w ∈ lw_all, w.before _ s = true := fun w h => hts w (List.mem_cons_of_mem _ h)
  have hown : s.vm.findClass RX9 = some m.cls := findClass_of_methodNamed hnm
  have hw : ep_W G ep_cl h s s.heap [] := ⟨hR, va_S.rf⟩
  have hl := lv_entry ([.ref (G.2.2.2 (2 + k0)), .int x1]) (n := 2) (Nat.le_of_ble_eq_true rfl)
  rw [lg_entry_eq]
  generalize (lg_sl ([.ref (G.2.2.2 (2 + k0)), .int x1]) ++ List.replicate (2 - (lg_sl ([.ref (G.2.2.2 (2 + k0)), .int x1])).length) Slot.unset).toArray = ls at hl ⊢
  have hl : lv_has ls 2 [(0, .ref (G.2.2.2 (2 + k0))), (1, .int x1)] := hl
  unfold fX9_gain at hf
  show wX9_gain p l e s m below meth c G h k0 x1 res 0 0 s.heap ([]) (F0 m 0 ls [])
  refine lv_iconst (v := iI 1) hx hb dX9_gain_0 rfl ?_
  refine lv_aload_n hx hb dX9_gain_1 rfl (lv_at hl 0 rfl) ?_
  refine lv_iload_n hx hb dX9_gain_2 rfl (lv_at hl 1 rfl) ?_
  obtain ⟨v1, ev1, hf⟩ := ob_s hf
  refine ep_calli0 (ep_runSUC (x := ⟨"EchoPens$Plain", "gain", "(I)I"⟩) (As := [.int x1]) (rest := [.int (iI 1)]) (ep_brAt hk0 hK) ⟨hx, hb, hml, hown, hts⟩ (metX8_gain l G h k0 x1 ev1 hk0) rfl rfl ⟨Nat.le_of_ble_eq_true rfl, Nat.le_of_ble_eq_true rfl⟩ ⟨rfl, rfl⟩ q709 q705 q593 (Or.inl rfl) q703 q716 hnX8_gain (ep_preB hk0 hK hZ hw) rfl rfl hl.1 rfl (lv_room (Nat.le_of_ble_eq_true rfl)) dX9_gain_3 ⟨Nat.le_of_ble_eq_true rfl, Nat.le_of_ble_eq_true rfl⟩) hw (fun H locs hw => ?_)
  refine va_mmin hx hb (hml.trans hl.1.symm) hown (hts _ q710) (hts _ q458) (hts _ q100) (hts _ q459) (Nat.le_of_ble_eq_true rfl) (Nat.le_of_ble_eq_true rfl) (Nat.le_of_ble_eq_true rfl) (Nat.le_of_ble_eq_true rfl) dX9_gain_6 ?_
  exact ep_retiR hx hb hr hlocks hw hf dX9_gain_9
theorem hdX11_returns : yX11_returns.cls = RX11 ∧ yX11_returns.cls ≠ "java/lang/invoke/MethodHandle" ∧ yX11_returns.cls ≠ "java/lang/invoke/VarHandle" ∧ (parseMethodDescriptor yX11_returns.desc).map (fun d => d.parameters.length) = some 2 := by decide +kernel
theorem hnX11_returns : yX11_returns.name ≠ "<init>" ∧ (parseMethodDescriptor yX11_returns.desc).map (fun d => d.parameters.length) = some 2 := by decide +kernel
abbrev wX11_returns (p : Program) (l : Launch) (e : Env) (s : State) (m : MethodId) (below : List Frame) (meth : Method) (c : Code) (G : EG) (h : Hp) (k0 : Nat) (x1 : Int32) (x2 : Int32) (res : Int32) (k9 n9 : Nat) (H : Heap) (locs : List Loc) (g : JFrame) : Prop := W p l e (headSpec (ws_ yX11_returns cX11_returns 3 (some .int)) ({ frames := 2, cells := 0, slots := 0, locals := 44 } : Room)).room s m ([.ref (G.2.2.2 (2 + k0)), .int x1, .int x2] : List Value).toArray below meth c H locs k9 n9 (MQ below (ep_Qi G ep_cl h res) ([.ref (G.2.2.2 (2 + k0)), .int x1, .int x2] : List Value).toArray s 0 0 (ep_A G)) g
set_option maxHeartbeats 4000000 in
theorem metX11_returns (l : Launch) (G : EG) (h : Hp) (k0 : Nat) (x1 : Int32) (x2 : Int32) {res : Int32} (hf : fX11_returns x1 x2 = some res) (hk0 : k0 < 4) : MetC l yX11_returns (ws_ yX11_returns cX11_returns 3 (some .int)) ({ frames := 2, cells := 0, slots := 0, locals := 44 } : Room) (ep_Pc G ep_cl h [.ref (G.2.2.2 (2 + k0)), .int x1, .int x2]) (ep_Qi G ep_cl h res) 0 0 (ep_A G) := by
  refine MetC.ofW (cc := cX11_returns) (maxL := 3) (ret := (some .int)) (by decide) rfl ?_
  intro p e s m args below meth c hx hb hr hlocks hml hpre hnm hv
  obtain ⟨rfl, hR, hK, hZ⟩ := hv
  have hts := atoms_spec (ws := (ws_ yX11_returns cX11_returns 3 (some .int))) hpre
  have hts : ∀ w ∈ lw_all, w.before _ s = true := fun w h => hts w (List.mem_cons_of_mem _ h)
  have hown : s.vm.findClass RX11 = some m.cls := findClass_of_methodNamed hnm
  have hw : ep_W G ep_cl h s s.heap [] := ⟨hR, va_S.rf⟩
  have hl := lv_entry ([.ref (G.2.2.2 (2 + k0)), .int x1, .int x2]) (n := 3) (Nat.le_of_ble_eq_true rfl)
  rw [lg_entry_eq]
  generalize (lg_sl ([.ref (G.2.2.2 (2 + k0)), .int x1, .int x2]) ++ List.replicate (3 - (lg_sl ([.ref (G.2.2.2 (2 + k0)), .int x1, .int x2])).length) Slot.unset).toArray = ls at hl ⊢
  have hl : lv_has ls 3 [(0, .ref (G.2.2.2 (2 + k0))), (1, .int x1), (2, .int x2)] := hl
  unfold fX11_returns at hf
  show wX11_returns p l e s m below meth c G h k0 x1 x2 res 0 0 s.heap ([]) (F0 m 0 ls [])
  refine lv_aload_n hx hb dX11_returns_0 rfl (lv_at hl 0 rfl) ?_
  refine lv_iload_n hx hb dX11_returns_1 rfl (lv_at hl 1 rfl) ?_
  refine lv_iload_n hx hb dX11_returns_2 rfl (lv_at hl 2 rfl) ?_
  obtain ⟨v1, ev1, hf⟩ := ob_s hf
  refine ep_calli0 (ep_runSUC (x := ⟨"EchoPens$Twin", "returns", "(II)I"⟩) (As := [.int x1, .int x2]) (rest := []) (ep_brAt hk0 hK) ⟨hx, hb, hml, hown, hts⟩ (metX10_returns l G h k0 x1 x2 ev1 hk0) rfl rfl ⟨Nat.le_of_ble_eq_true rfl, Nat.le_of_ble_eq_true rfl⟩ ⟨rfl, rfl⟩ q602 q1637 q603 (Or.inl rfl) q595 q596 hnX10_returns (ep_preB hk0 hK hZ hw) rfl rfl hl.1 rfl (lv_room (Nat.le_of_ble_eq_true rfl)) dX11_returns_3 ⟨Nat.le_of_ble_eq_true rfl, Nat.le_of_ble_eq_true rfl⟩) hw (fun H locs hw => ?_)
  refine lv_iconst (v := iI 2) hx hb dX11_returns_6 rfl ?_
  obtain ⟨v2, ev2, hf⟩ := ob_s hf
  refine ep_idiv hx hb ev2 dX11_returns_7 ?_
  exact ep_retiR hx hb hr hlocks hw hf dX11_returns_8
theorem hdX11_spoils : yX11_spoils.cls = RX11 ∧ yX11_spoils.cls ≠ "java/lang/invoke/MethodHandle" ∧ yX11_spoils.cls ≠ "java/lang/invoke/VarHandle" ∧ (parseMethodDescriptor yX11_spoils.desc).map (fun d => d.parameters.length) = some 0 := by decide +kernel
theorem hnX11_spoils : yX11_spoils.name ≠ "<init>" ∧ (parseMethodDescriptor yX11_spoils.desc).map (fun d => d.parameters.length) = some 0 := by decide +kernel
abbrev wX11_spoils (p : Program) (l : Launch) (e : Env) (s : State) (m : MethodId) (below : List Frame) (meth : Method) (c : Code) (G : EG) (h : Hp) (k0 : Nat) (res : Int32) (k9 n9 : Nat) (H : Heap) (locs : List Loc) (g : JFrame) : Prop := W p l e (headSpec (ws_ yX11_spoils cX11_spoils 1 (some .boolean)) ({ frames := 1, cells := 0, slots := 0, locals := 20 } : Room)).room s m ([.ref (G.2.2.2 (2 + k0))] : List Value).toArray below meth c H locs k9 n9 (MQ below (ep_Qi G ep_cl h res) ([.ref (G.2.2.2 (2 + k0))] : List Value).toArray s 0 0 (ep_A G)) g
set_option maxHeartbeats 4000000 in
theorem metX11_spoils (l : Launch) (G : EG) (h : Hp) (k0 : Nat) {res : Int32} (hf : fX11_spoils = some res) (hk0 : k0 < 4) : MetC l yX11_spoils (ws_ yX11_spoils cX11_spoils 1 (some .boolean)) ({ frames := 1, cells := 0, slots := 0, locals := 20 } : Room) (ep_Pc G ep_cl h [.ref (G.2.2.2 (2 + k0))]) (ep_Qi G ep_cl h res) 0 0 (ep_A G) := by
  refine MetC.ofW (cc := cX11_spoils) (maxL := 1) (ret := (some .boolean)) (by decide) rfl ?_
  intro p e s m args below meth c hx hb hr hlocks hml hpre hnm hv
  obtain ⟨rfl, hR, hK, hZ⟩ := hv
  have hts := atoms_spec (ws := (ws_ yX11_spoils cX11_spoils 1 (some .boolean))) hpre
  have hts : ∀ w ∈ lw_all, w.before _ s = true := fun w h => hts w (List.mem_cons_of_mem _ h)
  have hown : s.vm.findClass RX11 = some m.cls := findClass_of_methodNamed hnm
  have hw : ep_W G ep_cl h s s.heap [] := ⟨hR, va_S.rf⟩
  have hl := lv_entry ([.ref (G.2.2.2 (2 + k0))]) (n := 1) (Nat.le_of_ble_eq_true rfl)
  rw [lg_entry_eq]
  generalize (lg_sl ([.ref (G.2.2.2 (2 + k0))]) ++ List.replicate (1 - (lg_sl ([.ref (G.2.2.2 (2 + k0))])).length) Slot.unset).toArray = ls at hl ⊢
  have hl : lv_has ls 1 [(0, .ref (G.2.2.2 (2 + k0)))] := hl
  unfold fX11_spoils at hf
  show wX11_spoils p l e s m below meth c G h k0 res 0 0 s.heap ([]) (F0 m 0 ls [])
  refine lv_aload_n hx hb dX11_spoils_0 rfl (lv_at hl 0 rfl) ?_
  obtain ⟨v1, ev1, hf⟩ := ob_s hf
  refine ep_calli0 (ep_runSUC (x := ⟨"EchoPens$Twin", "spoils", "()Z"⟩) (As := []) (rest := []) (ep_brAt hk0 hK) ⟨hx, hb, hml, hown, hts⟩ (metX8_spoils l G h k0 ev1 hk0) rfl rfl ⟨Nat.le_of_ble_eq_true rfl, Nat.le_of_ble_eq_true rfl⟩ ⟨rfl, rfl⟩ q692 q693 q603 (Or.inr q598) q684 q695 hnX8_spoils (ep_preB hk0 hK hZ hw) rfl rfl hl.1 rfl (lv_room (Nat.le_of_ble_eq_true rfl)) dX11_spoils_1 ⟨Nat.le_of_ble_eq_true rfl, Nat.le_of_ble_eq_true rfl⟩) hw (fun H locs hw => ?_)
  refine lv_if_ne (tgt := 11) hx hb dX11_spoils_4 (by decide) (fun c2 => ?_) (fun c2 => ?_)
  · have hf := oi_f hf c2
    refine lv_iconst (v := iI 0) hx hb dX11_spoils_11 rfl ?_
    exact ep_retzR hx hb hr rfl hlocks hw hf dX11_spoils_12
  · have hf := oi_t hf c2
    refine lv_iconst (v := iI 1) hx hb dX11_spoils_7 rfl ?_
    refine lv_goto (tgt := 12) hx hb dX11_spoils_8 (by decide) ?_
    exact ep_retzR hx hb hr rfl hlocks hw hf dX11_spoils_12
theorem hsX0_isIn : yX0_isIn.cls ≠ "java/lang/invoke/MethodHandle" ∧ yX0_isIn.cls ≠ "java/lang/invoke/VarHandle" ∧ (parseMethodDescriptor yX0_isIn.desc).map (fun d => d.parameters.length) = some 3 := by decide +kernel
abbrev wX0_isIn (p : Program) (l : Launch) (e : Env) (s : State) (m : MethodId) (below : List Frame) (meth : Method) (c : Code) (G : EG) (h : Hp) (x0 : Int64) (x2 : Int64) (x4 : Int64) (res : Int32) (k9 n9 : Nat) (H : Heap) (locs : List Loc) (g : JFrame) : Prop := W p l e (headSpec (ws_ yX0_isIn cX0_isIn 6 (some .boolean)) ({ frames := 0, cells := 0, slots := 0, locals := 0 } : Room)).room s m ([.long x0, .long x2, .long x4] : List Value).toArray below meth c H locs k9 n9 (MQ below (ep_Qi G ep_cl h res) ([.long x0, .long x2, .long x4] : List Value).toArray s 0 0 (ep_A G)) g
set_option maxHeartbeats 4000000 in
theorem metX0_isIn (l : Launch) (G : EG) (h : Hp) (x0 : Int64) (x2 : Int64) (x4 : Int64) {res : Int32} (hf : fX0_isIn x0 x2 x4 = some res) : Met l yX0_isIn (ws_ yX0_isIn cX0_isIn 6 (some .boolean)) ({ frames := 0, cells := 0, slots := 0, locals := 0 } : Room) (ep_Pc G ep_cl h [.long x0, .long x2, .long x4]) (ep_Qi G ep_cl h res) 0 0 (ep_A G) := by
  refine Met.ofW (cc := cX0_isIn) (maxL := 6) (ret := (some .boolean)) (by decide) rfl ?_
  intro p e s m args below meth c s₁ B hml hv
  obtain ⟨rfl, hR, hK, hZ⟩ := hv
  have hx := B.exec
  have hb := B.bytes
  have hr := B.returns
  have hlocks := B.notSynchronized
  have hts := atoms_spec (ws := (ws_ yX0_isIn cX0_isIn 6 (some .boolean))) B.pre
  have hts : ∀ w ∈ lw_all, w.before _ s = true := fun w h => hts w (List.mem_cons_of_mem _ h)
  have hown : s.vm.findClass RX0 = some m.cls := findClass_of_methodNamed B.named
  have hw : ep_W G ep_cl h s s.heap [] := ⟨hR, va_S.rf⟩
  have hl := lv_entry ([.long x0, .long x2, .long x4]) (n := 6) (Nat.le_of_ble_eq_true rfl)
  rw [lg_entry_eq]
  generalize (lg_sl ([.long x0, .long x2, .long x4]) ++ List.replicate (6 - (lg_sl ([.long x0, .long x2, .long x4])).length) Slot.unset).toArray = ls at hl ⊢
  have hl : lv_has ls 6 [(0, .long x0), (2, .long x2), (4, .long x4)] := hl
  unfold fX0_isIn at hf
  show wX0_isIn p l e s m below meth c G h x0 x2 x4 res 0 0 s.heap ([]) (F0 m 0 ls [])
  refine lv_lload_n hx hb dX0_isIn_0 rfl (lv_at hl 0 rfl) ?_
  refine lv_lload_n hx hb dX0_isIn_1 rfl (lv_at hl 1 rfl) ?_
  refine W.lcmp hx hb dX0_isIn_2 ?_
  refine lv_if_lt (tgt := 17) hx hb dX0_isIn_3 (by decide) (fun c1 => ?_) (fun c1 => ?_)
  · have hf := oi_t hf c1
    refine lv_iconst (v := iI 0) hx hb dX0_isIn_17 rfl ?_
    exact ep_retzR hx hb hr rfl hlocks hw hf dX0_isIn_18
  · have hf := oi_f hf c1
    refine lv_lload_n hx hb dX0_isIn_6 rfl (lv_at hl 0 rfl) ?_
    refine lv_lload hx hb dX0_isIn_7 (lv_at hl 2 rfl) ?_
    refine W.lcmp hx hb dX0_isIn_9 ?_
    refine lv_if_gt (tgt := 17) hx hb dX0_isIn_10 (by decide) (fun c2 => ?_) (fun c2 => ?_)
    · have hf := oi_t hf c2
      refine lv_iconst (v := iI 0) hx hb dX0_isIn_17 rfl ?_
      exact ep_retzR hx hb hr rfl hlocks hw hf dX0_isIn_18
    · have hf := oi_f hf c2
      refine lv_iconst (v := iI 1) hx hb dX0_isIn_13 rfl ?_
      refine lv_goto (tgt := 18) hx hb dX0_isIn_14 (by decide) ?_
      exact ep_retzR hx hb hr rfl hlocks hw hf dX0_isIn_18
theorem hdX0_feed : yX0_feed.cls = RX0 ∧ yX0_feed.cls ≠ "java/lang/invoke/MethodHandle" ∧ yX0_feed.cls ≠ "java/lang/invoke/VarHandle" ∧ (parseMethodDescriptor yX0_feed.desc).map (fun d => d.parameters.length) = some 1 := by decide +kernel
theorem ckX0_feed {h : Hp} {a0 : Nat} {x1 : Int32} {res : Int32 × Hp} (hf : fX0_feed h a0 x1 = some res) : ep_cls h a0 = some 0 := by
  unfold fX0_feed at hf
  exact (oi_c hf).1
abbrev wX0_feed (p : Program) (l : Launch) (e : Env) (s : State) (m : MethodId) (below : List Frame) (meth : Method) (c : Code) (G : EG) (h : Hp) (a0 : Nat) (x1 : Int32) (res : Int32 × Hp) (k9 n9 : Nat) (H : Heap) (locs : List Loc) (g : JFrame) : Prop := W p l e (headSpec (ws_ yX0_feed cX0_feed 2 (some .int)) ({ frames := 1, cells := 0, slots := 0, locals := 25 } : Room)).room s m ([.ref a0, .int x1] : List Value).toArray below meth c H locs k9 n9 (MQ below (ep_Qi G ep_cl res.2 res.1) ([.ref a0, .int x1] : List Value).toArray s 0 0 (ep_A G)) g
set_option maxHeartbeats 4000000 in
theorem metX0_feed (l : Launch) (G : EG) (h : Hp) (a0 : Nat) (x1 : Int32) {res : Int32 × Hp} (hf : fX0_feed h a0 x1 = some res) : Met l yX0_feed (ws_ yX0_feed cX0_feed 2 (some .int)) ({ frames := 1, cells := 0, slots := 0, locals := 25 } : Room) (ep_Pc G ep_cl h [.ref a0, .int x1]) (ep_Qi G ep_cl res.2 res.1) 0 0 (ep_A G) := by
  refine Met.ofW (cc := cX0_feed) (maxL := 2) (ret := (some .int)) (by decide) rfl ?_
  intro p e s m args below meth c s₁ B hml hv
  obtain ⟨rfl, hR, hK, hZ⟩ := hv
  have hx := B.exec
  have hb := B.bytes
  have hr := B.returns
  have hlocks := B.notSynchronized
  have hts := atoms_spec (ws := (ws_ yX0_feed cX0_feed 2 (some .int))) B.pre
  have hts : ∀ w ∈ lw_all, w.before _ s = true := fun w h => hts w (List.mem_cons_of_mem _ h)
  have hown : s.vm.findClass RX0 = some m.cls := findClass_of_methodNamed B.named
  have hw : ep_W G ep_cl h s s.heap [] := ⟨hR, va_S.rf⟩
  have hl := lv_entry ([.ref a0, .int x1]) (n := 2) (Nat.le_of_ble_eq_true rfl)
  rw [lg_entry_eq]
  generalize (lg_sl ([.ref a0, .int x1]) ++ List.replicate (2 - (lg_sl ([.ref a0, .int x1])).length) Slot.unset).toArray = ls at hl ⊢
  have hl : lv_has ls 2 [(0, .ref a0), (1, .int x1)] := hl
  unfold fX0_feed at hf
  have hf := (oi_c hf).2
  show wX0_feed p l e s m below meth c G h a0 x1 res 0 0 s.heap ([]) (F0 m 0 ls [])
  refine lv_iload_n hx hb dX0_feed_0 rfl (lv_at hl 1 rfl) ?_
  refine lv_i2l (v := x1.toInt64) hx hb dX0_feed_1 rfl ?_
  refine lv_lconst (v := lI 0) hx hb dX0_feed_2 (by decide) ?_
  refine lv_ldc2 (v := (127 : Int64)) hx hb hown (hts _ q113) dX0_feed_3 ?_
  obtain ⟨v1, ev1, hf⟩ := ob_s hf
  refine ep_calli0 (va_runS (As := [.long x1.toInt64, .long (lI 0), .long (127 : Int64)]) (rest := []) ⟨hx, hb, hml, hown, hts⟩ (metX0_isIn l G h x1.toInt64 (lI 0) (127 : Int64) ev1) (va_cwS 3 hts (lw_S q114 q115 q85 q116) rfl rfl rfl hsX0_isIn ⟨Nat.le_of_ble_eq_true rfl, Nat.le_of_ble_eq_true rfl⟩) (ep_preS hK hZ hw) rfl rfl hl.1 rfl (lv_room (Nat.le_of_ble_eq_true rfl)) dX0_feed_6 ⟨Nat.le_of_ble_eq_true rfl, Nat.le_of_ble_eq_true rfl⟩) hw (fun H locs hw => ?_)
  refine lv_if_ne (tgt := 14) hx hb dX0_feed_9 (by decide) (fun c2 => ?_) (fun c2 => ?_)
  · have hf := oi_f hf c2
    refine lv_aload_n hx hb dX0_feed_14 rfl (lv_at hl 0 rfl) ?_
    obtain ⟨v3, ev3, hf⟩ := ob_s hf
    refine ep_get (C := RX0) (T := TX0) (N := 25) (ci := 0) hx hb hts in_X0 hown hK hw rfl 1 (by decide) q927 (gI_f ev3) dX0_feed_15 ?_
    refine lv_sipush (v := iI 160) hx hb dX0_feed_18 (by decide) ?_
    refine lv_icmp_ne (tgt := 27) hx hb dX0_feed_21 (by decide) (fun c4 => ?_) (fun c4 => ?_)
    · have hf := oi_f hf c4
      refine lv_aload_n hx hb dX0_feed_27 rfl (lv_at hl 0 rfl) ?_
      obtain ⟨r5, er5, hf⟩ := ob_s hf
      refine ep_get (C := RX0) (T := TX0) (N := 25) (ci := 0) hx hb hts in_X0 hown hK hw rfl 0 (by decide) q926 (gR_f er5) dX0_feed_28 ?_
      refine lv_aload_n hx hb dX0_feed_31 rfl (lv_at hl 0 rfl) ?_
      obtain ⟨v6, ev6, hf⟩ := ob_s hf
      refine ep_get (C := RX0) (T := TX0) (N := 25) (ci := 0) hx hb hts in_X0 hown hK hw rfl 1 (by decide) q927 (gI_f ev6) dX0_feed_32 ?_
      refine lv_iload_n hx hb dX0_feed_35 rfl (lv_at hl 1 rfl) ?_
      refine lv_i2b (v := x1.toInt8.toInt32) hx hb dX0_feed_36 rfl ?_
      obtain ⟨h7, eh7, hf⟩ := ob_s hf
      refine ep_bast hx hb hK hw eh7 dX0_feed_37 (fun H locs hw => ?_)
      refine lv_aload_n hx hb dX0_feed_38 rfl (lv_at hl 0 rfl) ?_
      refine lv_dup hx hb dX0_feed_39 rfl ?_
      obtain ⟨v8, ev8, hf⟩ := ob_s hf
      refine ep_get (C := RX0) (T := TX0) (N := 25) (ci := 0) hx hb hts in_X0 hown hK hw rfl 1 (by decide) q927 (gI_f ev8) dX0_feed_40 ?_
      refine lv_iconst (v := iI 1) hx hb dX0_feed_43 rfl ?_
      refine lv_iadd hx hb dX0_feed_44 ?_
      obtain ⟨h9, eh9, hf⟩ := ob_s hf
      refine ep_put (C := RX0) (T := TX0) (N := 25) (ci := 0) hx hb hts in_X0 tyX0 tyX0_ok nmX0 hown hK hw rfl (by decide) 1 (by decide) q927 rfl rfl rfl eh9 dX0_feed_45 (fun H locs hw => ?_)
      refine lv_aload_n hx hb dX0_feed_48 rfl (lv_at hl 0 rfl) ?_
      obtain ⟨v10, ev10, hf⟩ := ob_s hf
      refine ep_get (C := RX0) (T := TX0) (N := 25) (ci := 0) hx hb hts in_X0 hown hK hw rfl 1 (by decide) q927 (gI_f ev10) dX0_feed_49 ?_
      exact ep_retiW hx hb hr hlocks hw hf dX0_feed_52
    · have hf := oi_t hf c4
      refine lv_bipush (v := iI (-3)) hx hb dX0_feed_24 (by decide) ?_
      exact ep_retiW hx hb hr hlocks hw hf dX0_feed_26
  · have hf := oi_t hf c2
    refine lv_iconst (v := iI (-1)) hx hb dX0_feed_12 rfl ?_
    exact ep_retiW hx hb hr hlocks hw hf dX0_feed_13
theorem hdX0_end : yX0_end.cls = RX0 ∧ yX0_end.cls ≠ "java/lang/invoke/MethodHandle" ∧ yX0_end.cls ≠ "java/lang/invoke/VarHandle" ∧ (parseMethodDescriptor yX0_end.desc).map (fun d => d.parameters.length) = some 1 := by decide +kernel
theorem ckX0_end {h : Hp} {a0 : Nat} {x1 : Int32} {res : Int32 × Hp} (hf : fX0_end h a0 x1 = some res) : ep_cls h a0 = some 0 := by
  unfold fX0_end at hf
  exact (oi_c hf).1
abbrev wX0_end (p : Program) (l : Launch) (e : Env) (s : State) (m : MethodId) (below : List Frame) (meth : Method) (c : Code) (G : EG) (h : Hp) (a0 : Nat) (x1 : Int32) (res : Int32 × Hp) (k9 n9 : Nat) (H : Heap) (locs : List Loc) (g : JFrame) : Prop := W p l e (headSpec (ws_ yX0_end cX0_end 3 (some .int)) ({ frames := 1, cells := 0, slots := 0, locals := 25 } : Room)).room s m ([.ref a0, .int x1] : List Value).toArray below meth c H locs k9 n9 (MQ below (ep_Qi G ep_cl res.2 res.1) ([.ref a0, .int x1] : List Value).toArray s 0 0 (ep_A G)) g
set_option maxHeartbeats 4000000 in
theorem metX0_end (l : Launch) (G : EG) (h : Hp) (a0 : Nat) (x1 : Int32) {res : Int32 × Hp} (hf : fX0_end h a0 x1 = some res) : Met l yX0_end (ws_ yX0_end cX0_end 3 (some .int)) ({ frames := 1, cells := 0, slots := 0, locals := 25 } : Room) (ep_Pc G ep_cl h [.ref a0, .int x1]) (ep_Qi G ep_cl res.2 res.1) 0 0 (ep_A G) := by
  refine Met.ofW (cc := cX0_end) (maxL := 3) (ret := (some .int)) (by decide) rfl ?_
  intro p e s m args below meth c s₁ B hml hv
  obtain ⟨rfl, hR, hK, hZ⟩ := hv
  have hx := B.exec
  have hb := B.bytes
  have hr := B.returns
  have hlocks := B.notSynchronized
  have hts := atoms_spec (ws := (ws_ yX0_end cX0_end 3 (some .int))) B.pre
  have hts : ∀ w ∈ lw_all, w.before _ s = true := fun w h => hts w (List.mem_cons_of_mem _ h)
  have hown : s.vm.findClass RX0 = some m.cls := findClass_of_methodNamed B.named
  have hw : ep_W G ep_cl h s s.heap [] := ⟨hR, va_S.rf⟩
  have hl := lv_entry ([.ref a0, .int x1]) (n := 3) (Nat.le_of_ble_eq_true rfl)
  rw [lg_entry_eq]
  generalize (lg_sl ([.ref a0, .int x1]) ++ List.replicate (3 - (lg_sl ([.ref a0, .int x1])).length) Slot.unset).toArray = ls at hl ⊢
  have hl : lv_has ls 3 [(0, .ref a0), (1, .int x1)] := hl
  unfold fX0_end at hf
  have hf := (oi_c hf).2
  show wX0_end p l e s m below meth c G h a0 x1 res 0 0 s.heap ([]) (F0 m 0 ls [])
  refine lv_iload_n hx hb dX0_end_0 rfl (lv_at hl 1 rfl) ?_
  refine lv_i2l (v := x1.toInt64) hx hb dX0_end_1 rfl ?_
  refine lv_lconst (v := lI 0) hx hb dX0_end_2 (by decide) ?_
  refine lv_aload_n hx hb dX0_end_3 rfl (lv_at hl 0 rfl) ?_
  obtain ⟨v1, ev1, hf⟩ := ob_s hf
  refine ep_get (C := RX0) (T := TX0) (N := 25) (ci := 0) hx hb hts in_X0 hown hK hw rfl 1 (by decide) q927 (gI_f ev1) dX0_end_4 ?_
  refine lv_i2l (v := v1.toInt64) hx hb dX0_end_7 rfl ?_
  obtain ⟨v2, ev2, hf⟩ := ob_s hf
  refine ep_calli0 (va_runS (As := [.long x1.toInt64, .long (lI 0), .long v1.toInt64]) (rest := []) ⟨hx, hb, hml, hown, hts⟩ (metX0_isIn l G h x1.toInt64 (lI 0) v1.toInt64 ev2) (va_cwS 3 hts (lw_S q114 q115 q85 q116) rfl rfl rfl hsX0_isIn ⟨Nat.le_of_ble_eq_true rfl, Nat.le_of_ble_eq_true rfl⟩) (ep_preS hK hZ hw) rfl rfl hl.1 rfl (lv_room (Nat.le_of_ble_eq_true rfl)) dX0_end_8 ⟨Nat.le_of_ble_eq_true rfl, Nat.le_of_ble_eq_true rfl⟩) hw (fun H locs hw => ?_)
  refine lv_if_ne (tgt := 16) hx hb dX0_end_11 (by decide) (fun c3 => ?_) (fun c3 => ?_)
  · have hf := oi_f hf c3
    refine lv_aload_n hx hb dX0_end_16 rfl (lv_at hl 0 rfl) ?_
    obtain ⟨v4, ev4, hf⟩ := ob_s hf
    refine ep_get (C := RX0) (T := TX0) (N := 25) (ci := 0) hx hb hts in_X0 hown hK hw rfl 1 (by decide) q927 (gI_f ev4) dX0_end_17 ?_
    refine lv_istore_n (lv' := [(2, .int v4), (0, .ref a0), (1, .int x1)]) hx hb dX0_end_20 rfl hl (by decide) rfl (fun ls hl => ?_)
    refine lv_aload_n hx hb dX0_end_21 rfl (lv_at hl 1 rfl) ?_
    refine lv_iload_n hx hb dX0_end_22 rfl (lv_at hl 2 rfl) ?_
    obtain ⟨h5, eh5, hf⟩ := ob_s hf
    refine ep_put (C := RX0) (T := TX0) (N := 25) (ci := 0) hx hb hts in_X0 tyX0 tyX0_ok nmX0 hown hK hw rfl (by decide) 1 (by decide) q927 rfl rfl rfl eh5 dX0_end_23 (fun H locs hw => ?_)
    refine lv_iload_n hx hb dX0_end_26 rfl (lv_at hl 0 rfl) ?_
    exact ep_retiW hx hb hr hlocks hw hf dX0_end_27
  · have hf := oi_t hf c3
    refine lv_iconst (v := iI (-1)) hx hb dX0_end_14 rfl ?_
    exact ep_retiW hx hb hr hlocks hw hf dX0_end_15
theorem hdX1_init : yX1_init.cls = RX1 ∧ yX1_init.cls ≠ "java/lang/invoke/MethodHandle" ∧ yX1_init.cls ≠ "java/lang/invoke/VarHandle" ∧ (parseMethodDescriptor yX1_init.desc).map (fun d => d.parameters.length) = some 0 := by decide +kernel
theorem ckX1_init {h : Hp} {a0 : Nat} {res : Hp} (hf : fX1_init h a0 = some res) : ep_cls h a0 = some 1 := by
  unfold fX1_init at hf
  exact (oi_c hf).1
abbrev wX1_init (p : Program) (l : Launch) (e : Env) (s : State) (m : MethodId) (below : List Frame) (meth : Method) (c : Code) (G : EG) (h : Hp) (a0 : Nat) (res : Hp) (k9 n9 : Nat) (H : Heap) (locs : List Loc) (g : JFrame) : Prop := W p l e (headSpec (ws_ yX1_init cX1_init 1 none) ({ frames := 1, cells := 12, slots := 58, locals := 20 } : Room)).room s m ([.ref a0] : List Value).toArray below meth c H locs k9 n9 (MQ below (ep_Qv G ep_cl res) ([.ref a0] : List Value).toArray s 12 58 (ep_A G)) g
set_option maxHeartbeats 4000000 in
theorem metX1_init (l : Launch) (G : EG) (h : Hp) (a0 : Nat) {res : Hp} (hf : fX1_init h a0 = some res) : Met l yX1_init (ws_ yX1_init cX1_init 1 none) ({ frames := 1, cells := 12, slots := 58, locals := 20 } : Room) (ep_Pc G ep_cl h [.ref a0]) (ep_Qv G ep_cl res) 12 58 (ep_A G) := by
  refine Met.ofW (cc := cX1_init) (maxL := 1) (ret := none) (by decide) rfl ?_
  intro p e s m args below meth c s₁ B hml hv
  obtain ⟨rfl, hR, hK, hZ⟩ := hv
  have hx := B.exec
  have hb := B.bytes
  have hr := B.returns
  have hlocks := B.notSynchronized
  have hts := atoms_spec (ws := (ws_ yX1_init cX1_init 1 none)) B.pre
  have hts : ∀ w ∈ lw_all, w.before _ s = true := fun w h => hts w (List.mem_cons_of_mem _ h)
  have hown : s.vm.findClass RX1 = some m.cls := findClass_of_methodNamed B.named
  have hin : meth.name = "<init>" := (name_of_methodNamed B.named B.method).1
  have hw : ep_W G ep_cl h s s.heap [] := ⟨hR, va_S.rf⟩
  have hl := lv_entry ([.ref a0]) (n := 1) (Nat.le_of_ble_eq_true rfl)
  rw [lg_entry_eq]
  generalize (lg_sl ([.ref a0]) ++ List.replicate (1 - (lg_sl ([.ref a0])).length) Slot.unset).toArray = ls at hl ⊢
  have hl : lv_has ls 1 [(0, .ref a0)] := hl
  unfold fX1_init at hf
  have hf := (oi_c hf).2
  show wX1_init p l e s m below meth c G h a0 res 0 0 s.heap ([]) (F0 m 0 ls [])
  refine lv_aload_n hx hb dX1_init_0 rfl (lv_at hl 0 rfl) ?_
  refine W.objInit hx hb hown (hts _ q142) (hts _ q135) (hts _ q136) rfl (by rw [hml]; exact hl.1) rfl dX1_init_1 (Nat.le_of_ble_eq_true rfl) (Nat.le_of_ble_eq_true rfl) ?_
  refine W.eq (g2 := F0 m 4 ls []) rfl ?_
  refine lv_aload_n hx hb dX1_init_4 rfl (lv_at hl 0 rfl) ?_
  refine lv_iconst (v := iI 4) hx hb dX1_init_5 rfl ?_
  obtain ⟨h1, eh1, hf⟩ := ob_s hf
  refine ep_newaH 0 4 hx hb hts (atype := .int) q199 rfl (by decide) rfl (fun _ _ => rfl) hK hw (by decide) (Nat.le_of_ble_eq_true rfl) (Nat.le_of_ble_eq_true rfl) eh1 dX1_init_6 (fun H locs hw => ?_)
  obtain ⟨h2, eh2, hf⟩ := ob_s hf
  refine ep_putF (C := RX1) (T := TX1) (N := 11) (ci := 1) hx hb hts in_X1 tyX1 tyX1_ok nmX1 hown hK hw rfl (by decide) 0 (by decide) q145 rfl hin rfl rfl rfl eh2 dX1_init_8 (fun H locs hw => ?_)
  refine lv_aload_n hx hb dX1_init_11 rfl (lv_at hl 0 rfl) ?_
  refine lv_iconst (v := iI 4) hx hb dX1_init_12 rfl ?_
  obtain ⟨h3, eh3, hf⟩ := ob_s hf
  refine ep_newaH 0 4 hx hb hts (atype := .int) q199 rfl (by decide) rfl (fun _ _ => rfl) hK hw (by decide) (Nat.le_of_ble_eq_true rfl) (Nat.le_of_ble_eq_true rfl) eh3 dX1_init_13 (fun H locs hw => ?_)
  obtain ⟨h4, eh4, hf⟩ := ob_s hf
  refine ep_putF (C := RX1) (T := TX1) (N := 11) (ci := 1) hx hb hts in_X1 tyX1 tyX1_ok nmX1 hown hK hw rfl (by decide) 1 (by decide) q148 rfl hin rfl rfl rfl eh4 dX1_init_15 (fun H locs hw => ?_)
  refine lv_aload_n hx hb dX1_init_18 rfl (lv_at hl 0 rfl) ?_
  refine lv_iconst (v := iI 5) hx hb dX1_init_19 rfl ?_
  obtain ⟨h5, eh5, hf⟩ := ob_s hf
  refine ep_newaH 0 5 hx hb hts (atype := .int) q199 rfl (by decide) rfl (fun _ _ => rfl) hK hw (by decide) (Nat.le_of_ble_eq_true rfl) (Nat.le_of_ble_eq_true rfl) eh5 dX1_init_20 (fun H locs hw => ?_)
  obtain ⟨h6, eh6, hf⟩ := ob_s hf
  refine ep_putF (C := RX1) (T := TX1) (N := 11) (ci := 1) hx hb hts in_X1 tyX1 tyX1_ok nmX1 hown hK hw rfl (by decide) 2 (by decide) q151 rfl hin rfl rfl rfl eh6 dX1_init_22 (fun H locs hw => ?_)
  refine lv_aload_n hx hb dX1_init_25 rfl (lv_at hl 0 rfl) ?_
  refine lv_iconst (v := iI 5) hx hb dX1_init_26 rfl ?_
  refine lv_iconst (v := iI 5) hx hb dX1_init_27 rfl ?_
  obtain ⟨h7, eh7, hf⟩ := ob_s hf
  refine ep_multiH 4 1 5 5 (ty := .byte) hx hb hts hown q143 q198 (by decide) (by decide) rfl rfl (fun _ _ => rfl) rfl rfl rfl hK.2.2.2.2.1 hK hw (by decide) (by decide) (by decide) (Nat.le_of_ble_eq_true rfl) (Nat.le_of_ble_eq_true rfl) eh7 dX1_init_28 (fun H locs hw => ?_)
  obtain ⟨h8, eh8, hf⟩ := ob_s hf
  refine ep_putF (C := RX1) (T := TX1) (N := 11) (ci := 1) hx hb hts in_X1 tyX1 tyX1_ok nmX1 hown hK hw rfl (by decide) 3 (by decide) q154 rfl hin rfl rfl rfl eh8 dX1_init_32 (fun H locs hw => ?_)
  refine lv_aload_n hx hb dX1_init_35 rfl (lv_at hl 0 rfl) ?_
  refine lv_iconst (v := iI 5) hx hb dX1_init_36 rfl ?_
  obtain ⟨h9, eh9, hf⟩ := ob_s hf
  refine ep_newaH 0 5 hx hb hts (atype := .int) q199 rfl (by decide) rfl (fun _ _ => rfl) hK hw (by decide) (Nat.le_of_ble_eq_true rfl) (Nat.le_of_ble_eq_true rfl) eh9 dX1_init_37 (fun H locs hw => ?_)
  obtain ⟨h10, eh10, hf⟩ := ob_s hf
  refine ep_putF (C := RX1) (T := TX1) (N := 11) (ci := 1) hx hb hts in_X1 tyX1 tyX1_ok nmX1 hown hK hw rfl (by decide) 4 (by decide) q157 rfl hin rfl rfl rfl eh10 dX1_init_39 (fun H locs hw => ?_)
  refine lv_aload_n hx hb dX1_init_42 rfl (lv_at hl 0 rfl) ?_
  refine lv_iconst (v := iI 5) hx hb dX1_init_43 rfl ?_
  obtain ⟨h11, eh11, hf⟩ := ob_s hf
  refine ep_newaH 0 5 hx hb hts (atype := .int) q199 rfl (by decide) rfl (fun _ _ => rfl) hK hw (by decide) (Nat.le_of_ble_eq_true rfl) (Nat.le_of_ble_eq_true rfl) eh11 dX1_init_44 (fun H locs hw => ?_)
  obtain ⟨h12, eh12, hf⟩ := ob_s hf
  refine ep_putF (C := RX1) (T := TX1) (N := 11) (ci := 1) hx hb hts in_X1 tyX1 tyX1_ok nmX1 hown hK hw rfl (by decide) 5 (by decide) q160 rfl hin rfl rfl rfl eh12 dX1_init_46 (fun H locs hw => ?_)
  refine lv_aload_n hx hb dX1_init_49 rfl (lv_at hl 0 rfl) ?_
  refine lv_iconst (v := iI 5) hx hb dX1_init_50 rfl ?_
  obtain ⟨h13, eh13, hf⟩ := ob_s hf
  refine ep_newaH 0 5 hx hb hts (atype := .int) q199 rfl (by decide) rfl (fun _ _ => rfl) hK hw (by decide) (Nat.le_of_ble_eq_true rfl) (Nat.le_of_ble_eq_true rfl) eh13 dX1_init_51 (fun H locs hw => ?_)
  obtain ⟨h14, eh14, hf⟩ := ob_s hf
  refine ep_putF (C := RX1) (T := TX1) (N := 11) (ci := 1) hx hb hts in_X1 tyX1 tyX1_ok nmX1 hown hK hw rfl (by decide) 6 (by decide) q163 rfl hin rfl rfl rfl eh14 dX1_init_53 (fun H locs hw => ?_)
  exact ep_retvW hx hb hr hlocks hw hf dX1_init_56
theorem hdX5_at : yX5_at.cls = RX5 ∧ yX5_at.cls ≠ "java/lang/invoke/MethodHandle" ∧ yX5_at.cls ≠ "java/lang/invoke/VarHandle" ∧ (parseMethodDescriptor yX5_at.desc).map (fun d => d.parameters.length) = some 1 := by decide +kernel
theorem ckX5_at {h : Hp} {a0 : Nat} {x1 : Int32} {res : Int32} (hf : fX5_at h a0 x1 = some res) : ep_cls h a0 = some 5 := by
  unfold fX5_at at hf
  exact (oi_c hf).1
abbrev wX5_at (p : Program) (l : Launch) (e : Env) (s : State) (m : MethodId) (below : List Frame) (meth : Method) (c : Code) (G : EG) (h : Hp) (a0 : Nat) (x1 : Int32) (res : Int32) (k9 n9 : Nat) (H : Heap) (locs : List Loc) (g : JFrame) : Prop := W p l e (headSpec (ws_ yX5_at cX5_at 2 (some .int)) ({ frames := 0, cells := 0, slots := 0, locals := 0 } : Room)).room s m ([.ref a0, .int x1] : List Value).toArray below meth c H locs k9 n9 (MQ below (ep_Qi G ep_cl h res) ([.ref a0, .int x1] : List Value).toArray s 0 0 (ep_A G)) g
set_option maxHeartbeats 4000000 in
theorem metX5_at (l : Launch) (G : EG) (h : Hp) (a0 : Nat) (x1 : Int32) {res : Int32} (hf : fX5_at h a0 x1 = some res) : Met l yX5_at (ws_ yX5_at cX5_at 2 (some .int)) ({ frames := 0, cells := 0, slots := 0, locals := 0 } : Room) (ep_Pc G ep_cl h [.ref a0, .int x1]) (ep_Qi G ep_cl h res) 0 0 (ep_A G) := by
  refine Met.ofW (cc := cX5_at) (maxL := 2) (ret := (some .int)) (by decide) rfl ?_
  intro p e s m args below meth c s₁ B hml hv
  obtain ⟨rfl, hR, hK, hZ⟩ := hv
  have hx := B.exec
  have hb := B.bytes
  have hr := B.returns
  have hlocks := B.notSynchronized
  have hts := atoms_spec (ws := (ws_ yX5_at cX5_at 2 (some .int))) B.pre
  have hts : ∀ w ∈ lw_all, w.before _ s = true := fun w h => hts w (List.mem_cons_of_mem _ h)
  have hown : s.vm.findClass RX5 = some m.cls := findClass_of_methodNamed B.named
  have hw : ep_W G ep_cl h s s.heap [] := ⟨hR, va_S.rf⟩
  have hl := lv_entry ([.ref a0, .int x1]) (n := 2) (Nat.le_of_ble_eq_true rfl)
  rw [lg_entry_eq]
  generalize (lg_sl ([.ref a0, .int x1]) ++ List.replicate (2 - (lg_sl ([.ref a0, .int x1])).length) Slot.unset).toArray = ls at hl ⊢
  have hl : lv_has ls 2 [(0, .ref a0), (1, .int x1)] := hl
  unfold fX5_at at hf
  have hf := (oi_c hf).2
  show wX5_at p l e s m below meth c G h a0 x1 res 0 0 s.heap ([]) (F0 m 0 ls [])
  refine lv_iload_n hx hb dX5_at_0 rfl (lv_at hl 1 rfl) ?_
  refine lv_aload_n hx hb dX5_at_1 rfl (lv_at hl 0 rfl) ?_
  obtain ⟨r1, er1, hf⟩ := ob_s hf
  refine ep_get (C := RX5) (T := TX5) (N := 11) (ci := 5) hx hb hts in_X5 hown hK hw rfl 0 (by decide) q308 (gR_f er1) dX5_at_2 ?_
  obtain ⟨v2, ev2, hf⟩ := ob_s hf
  refine ep_alenT 1 (by decide) hx hb hK hw ev2 dX5_at_5 ?_
  refine lv_icmp_ge (tgt := 18) hx hb dX5_at_6 (by decide) (fun c3 => ?_) (fun c3 => ?_)
  · have hf := oi_t hf c3
    refine lv_bipush (v := iI (-4)) hx hb dX5_at_18 (by decide) ?_
    exact ep_retiR hx hb hr hlocks hw hf dX5_at_20
  · have hf := oi_f hf c3
    refine lv_aload_n hx hb dX5_at_9 rfl (lv_at hl 0 rfl) ?_
    obtain ⟨r4, er4, hf⟩ := ob_s hf
    refine ep_get (C := RX5) (T := TX5) (N := 11) (ci := 5) hx hb hts in_X5 hown hK hw rfl 0 (by decide) q308 (gR_f er4) dX5_at_10 ?_
    refine lv_iload_n hx hb dX5_at_13 rfl (lv_at hl 1 rfl) ?_
    obtain ⟨v5, ev5, hf⟩ := ob_s hf
    refine ep_bald 1 (by decide) rfl hx hb hK hw ev5 dX5_at_14 ?_
    refine lv_goto (tgt := 20) hx hb dX5_at_15 (by decide) ?_
    exact ep_retiR hx hb hr hlocks hw hf dX5_at_20
theorem hdJ0_init_2 : yJ0_init_2.cls = RJ0 ∧ yJ0_init_2.cls ≠ "java/lang/invoke/MethodHandle" ∧ yJ0_init_2.cls ≠ "java/lang/invoke/VarHandle" ∧ (parseMethodDescriptor yJ0_init_2.desc).map (fun d => d.parameters.length) = some 4 := by decide +kernel
theorem ckJ0_init_2 {h : Hp} {a0 : Nat} {x3 : Int32} {x4 : Int32} {res : Hp} (hf : fJ0_init_2 h a0 x3 x4 = some res) : ep_cls h a0 = some 6 := by
  unfold fJ0_init_2 at hf
  exact (oi_c hf).1
abbrev wJ0_init_2 (p : Program) (l : Launch) (e : Env) (s : State) (m : MethodId) (below : List Frame) (meth : Method) (c : Code) (G : EG) (h : Hp) (a0 : Nat) (x3 : Int32) (x4 : Int32) (res : Hp) (k9 n9 : Nat) (H : Heap) (locs : List Loc) (g : JFrame) : Prop := W p l e (headSpec (ws_ yJ0_init_2 cJ0_init_2 5 none) ({ frames := 1, cells := 0, slots := 0, locals := 20 } : Room)).room s m ([.ref a0, .null, .null, .int x3, .int x4] : List Value).toArray below meth c H locs k9 n9 (MQ below (ep_Qv G ep_cl res) ([.ref a0, .null, .null, .int x3, .int x4] : List Value).toArray s 0 0 (ep_A G)) g
set_option maxHeartbeats 4000000 in
theorem metJ0_init_2 (l : Launch) (G : EG) (h : Hp) (a0 : Nat) (x3 : Int32) (x4 : Int32) {res : Hp} (hf : fJ0_init_2 h a0 x3 x4 = some res) : Met l yJ0_init_2 (ws_ yJ0_init_2 cJ0_init_2 5 none) ({ frames := 1, cells := 0, slots := 0, locals := 20 } : Room) (ep_Pc G ep_cl h [.ref a0, .null, .null, .int x3, .int x4]) (ep_Qv G ep_cl res) 0 0 (ep_A G) := by
  refine Met.ofW (cc := cJ0_init_2) (maxL := 5) (ret := none) (by decide) rfl ?_
  intro p e s m args below meth c s₁ B hml hv
  obtain ⟨rfl, hR, hK, hZ⟩ := hv
  have hx := B.exec
  have hb := B.bytes
  have hr := B.returns
  have hlocks := B.notSynchronized
  have hts := atoms_spec (ws := (ws_ yJ0_init_2 cJ0_init_2 5 none)) B.pre
  have hts : ∀ w ∈ lw_all, w.before _ s = true := fun w h => hts w (List.mem_cons_of_mem _ h)
  have hown : s.vm.findClass RJ0 = some m.cls := findClass_of_methodNamed B.named
  have hin : meth.name = "<init>" := (name_of_methodNamed B.named B.method).1
  have hw : ep_W G ep_cl h s s.heap [] := ⟨hR, va_S.rf⟩
  have hl := lv_entry ([.ref a0, .null, .null, .int x3, .int x4]) (n := 5) (Nat.le_of_ble_eq_true rfl)
  rw [lg_entry_eq]
  generalize (lg_sl ([.ref a0, .null, .null, .int x3, .int x4]) ++ List.replicate (5 - (lg_sl ([.ref a0, .null, .null, .int x3, .int x4])).length) Slot.unset).toArray = ls at hl ⊢
  have hl : lv_has ls 5 [(0, .ref a0), (1, .null), (2, .null), (3, .int x3), (4, .int x4)] := hl
  unfold fJ0_init_2 at hf
  have hf := (oi_c hf).2
  show wJ0_init_2 p l e s m below meth c G h a0 x3 x4 res 0 0 s.heap ([]) (F0 m 0 ls [])
  obtain ⟨⟨h3, h4⟩, hf⟩ := oi_c hf
  have key : ∀ (v w : Value), va_Z "java/lang/Throwable" "UNASSIGNED_STACK" "[Ljava/lang/StackTraceElement;" v (ep_A G) s s.heap → va_Z "java/lang/Throwable" "SUPPRESSED_SENTINEL" "Ljava/util/List;" w (ep_A G) s s.heap → narrow (tyX6 1) v = v → fits (tyX6 1) v = true → narrow (tyX6 2) w = w → fits (tyX6 2) w = true → wJ0_init_2 p l e s m below meth c G h a0 x3 x4 res 0 0 s.heap ([]) (F0 m 0 ls []) := by
    intro v w hv hv2 n1 f1 n2 f2
    obtain ⟨k1, k2, k3, k4, k5, k6, e1, e2, e3, e4, e5, e6, e7⟩ := thN_s hf v w
    refine lv_aload_n hx hb dJ0_init_2_0 rfl (lv_at hl 0 rfl) ?_
    refine W.objInit hx hb hown (hts _ q244) (hts _ q135) (hts _ q136) rfl (by rw [hml]; exact hl.1) rfl dJ0_init_2_1 (Nat.le_of_ble_eq_true rfl) (Nat.le_of_ble_eq_true rfl) ?_
    refine W.eq (g2 := F0 m 4 ls []) rfl ?_
    refine lv_aload_n hx hb dJ0_init_2_4 rfl (lv_at hl 0 rfl) ?_
    refine lv_aload_n hx hb dJ0_init_2_5 rfl (lv_at hl 0 rfl) ?_
    refine ep_put (C := RX6) (T := TX6) (N := 8) (ci := 6) hx hb hts in_X6 tyX6 tyX6_ok nmX6 hown hK hw rfl (by decide) 0 (by decide) q293 rfl rfl rfl e1 dJ0_init_2_6 (fun H locs hw => ?_)
    refine lv_aload_n hx hb dJ0_init_2_9 rfl (lv_at hl 0 rfl) ?_
    refine va_gets hx hb hv hw.2 hown (hts _ q245) (fun _ z => z) dJ0_init_2_10 ?_
    refine ep_put (C := RX6) (T := TX6) (N := 8) (ci := 6) hx hb hts in_X6 tyX6 tyX6_ok nmX6 hown hK hw rfl (by decide) 1 (by decide) q294 rfl n1 f1 e2 dJ0_init_2_13 (fun H locs hw => ?_)
    refine lv_aload_n hx hb dJ0_init_2_16 rfl (lv_at hl 0 rfl) ?_
    refine va_gets hx hb hv2 hw.2 hown (hts _ q247) (fun _ z => z) dJ0_init_2_17 ?_
    refine ep_put (C := RX6) (T := TX6) (N := 8) (ci := 6) hx hb hts in_X6 tyX6 tyX6_ok nmX6 hown hK hw rfl (by decide) 2 (by decide) q295 rfl n2 f2 e3 dJ0_init_2_20 (fun H locs hw => ?_)
    refine lv_iload hx hb dJ0_init_2_23 (lv_at hl 4 rfl) ?_
    refine lv_if_eq (tgt := 36) hx hb dJ0_init_2_25 (by decide) (fun c1 => ?_) (fun c1 => absurd h4 c1)
    refine lv_aload_n hx hb dJ0_init_2_36 rfl (lv_at hl 0 rfl) ?_
    refine lv_null hx hb dJ0_init_2_37 ?_
    refine ep_put (C := RX6) (T := TX6) (N := 8) (ci := 6) hx hb hts in_X6 tyX6 tyX6_ok nmX6 hown hK hw rfl (by decide) 1 (by decide) q294 rfl rfl rfl e4 dJ0_init_2_38 (fun H locs hw => ?_)
    refine lv_aload_n hx hb dJ0_init_2_41 rfl (lv_at hl 0 rfl) ?_
    refine lv_aload_nN hx hb dJ0_init_2_42 rfl (lv_at hl 1 rfl) ?_
    refine ep_put (C := RX6) (T := TX6) (N := 8) (ci := 6) hx hb hts in_X6 tyX6 tyX6_ok nmX6 hown hK hw rfl (by decide) 3 (by decide) q292 rfl rfl rfl e5 dJ0_init_2_43 (fun H locs hw => ?_)
    refine lv_aload_n hx hb dJ0_init_2_46 rfl (lv_at hl 0 rfl) ?_
    refine lv_aload_nN hx hb dJ0_init_2_47 rfl (lv_at hl 2 rfl) ?_
    refine ep_put (C := RX6) (T := TX6) (N := 8) (ci := 6) hx hb hts in_X6 tyX6 tyX6_ok nmX6 hown hK hw rfl (by decide) 0 (by decide) q293 rfl rfl rfl e6 dJ0_init_2_48 (fun H locs hw => ?_)
    refine lv_iload_n hx hb dJ0_init_2_51 rfl (lv_at hl 3 rfl) ?_
    refine lv_if_ne (tgt := 60) hx hb dJ0_init_2_52 (by decide) (fun c1 => absurd h3 c1) (fun c1 => ?_)
    refine lv_aload_n hx hb dJ0_init_2_55 rfl (lv_at hl 0 rfl) ?_
    refine lv_null hx hb dJ0_init_2_56 ?_
    refine ep_put (C := RX6) (T := TX6) (N := 8) (ci := 6) hx hb hts in_X6 tyX6 tyX6_ok nmX6 hown hK hw rfl (by decide) 2 (by decide) q295 rfl rfl rfl e7 dJ0_init_2_57 (fun H locs hw => ?_)
    exact ep_retvW hx hb hr hlocks hw rfl dJ0_init_2_60
  rcases hZ.1.2.2.2.2.1 with hz | ⟨t, hz⟩ <;> rcases hZ.1.2.2.2.2.2.1 with hz2 | ⟨t2, hz2⟩ <;> exact key _ _ hz hz2 rfl rfl rfl rfl
theorem hdJ1_init : yJ1_init.cls = RJ1 ∧ yJ1_init.cls ≠ "java/lang/invoke/MethodHandle" ∧ yJ1_init.cls ≠ "java/lang/invoke/VarHandle" ∧ (parseMethodDescriptor yJ1_init.desc).map (fun d => d.parameters.length) = some 4 := by decide +kernel
theorem ckJ1_init {h : Hp} {a0 : Nat} {x3 : Int32} {x4 : Int32} {res : Hp} (hf : fJ1_init h a0 x3 x4 = some res) : ep_cls h a0 = some 6 := by
  unfold fJ1_init at hf
  exact (oi_c hf).1
abbrev wJ1_init (p : Program) (l : Launch) (e : Env) (s : State) (m : MethodId) (below : List Frame) (meth : Method) (c : Code) (G : EG) (h : Hp) (a0 : Nat) (x3 : Int32) (x4 : Int32) (res : Hp) (k9 n9 : Nat) (H : Heap) (locs : List Loc) (g : JFrame) : Prop := W p l e (headSpec (ws_ yJ1_init cJ1_init 5 none) ({ frames := 2, cells := 0, slots := 0, locals := 44 } : Room)).room s m ([.ref a0, .null, .null, .int x3, .int x4] : List Value).toArray below meth c H locs k9 n9 (MQ below (ep_Qv G ep_cl res) ([.ref a0, .null, .null, .int x3, .int x4] : List Value).toArray s 0 0 (ep_A G)) g
set_option maxHeartbeats 4000000 in
theorem metJ1_init (l : Launch) (G : EG) (h : Hp) (a0 : Nat) (x3 : Int32) (x4 : Int32) {res : Hp} (hf : fJ1_init h a0 x3 x4 = some res) : Met l yJ1_init (ws_ yJ1_init cJ1_init 5 none) ({ frames := 2, cells := 0, slots := 0, locals := 44 } : Room) (ep_Pc G ep_cl h [.ref a0, .null, .null, .int x3, .int x4]) (ep_Qv G ep_cl res) 0 0 (ep_A G) := by
  refine Met.ofW (cc := cJ1_init) (maxL := 5) (ret := none) (by decide) rfl ?_
  intro p e s m args below meth c s₁ B hml hv
  obtain ⟨rfl, hR, hK, hZ⟩ := hv
  have hx := B.exec
  have hb := B.bytes
  have hr := B.returns
  have hlocks := B.notSynchronized
  have hts := atoms_spec (ws := (ws_ yJ1_init cJ1_init 5 none)) B.pre
  have hts : ∀ w ∈ lw_all, w.before _ s = true := fun w h => hts w (List.mem_cons_of_mem _ h)
  have hown : s.vm.findClass RJ1 = some m.cls := findClass_of_methodNamed B.named
  have hin : meth.name = "<init>" := (name_of_methodNamed B.named B.method).1
  have hw : ep_W G ep_cl h s s.heap [] := ⟨hR, va_S.rf⟩
  have hl := lv_entry ([.ref a0, .null, .null, .int x3, .int x4]) (n := 5) (Nat.le_of_ble_eq_true rfl)
  rw [lg_entry_eq]
  generalize (lg_sl ([.ref a0, .null, .null, .int x3, .int x4]) ++ List.replicate (5 - (lg_sl ([.ref a0, .null, .null, .int x3, .int x4])).length) Slot.unset).toArray = ls at hl ⊢
  have hl : lv_has ls 5 [(0, .ref a0), (1, .null), (2, .null), (3, .int x3), (4, .int x4)] := hl
  unfold fJ1_init at hf
  have hf := (oi_c hf).2
  show wJ1_init p l e s m below meth c G h a0 x3 x4 res 0 0 s.heap ([]) (F0 m 0 ls [])
  refine lv_aload_n hx hb dJ1_init_0 rfl (lv_at hl 0 rfl) ?_
  refine lv_aload_nN hx hb dJ1_init_1 rfl (lv_at hl 1 rfl) ?_
  refine lv_aload_nN hx hb dJ1_init_2 rfl (lv_at hl 2 rfl) ?_
  refine lv_iload_n hx hb dJ1_init_3 rfl (lv_at hl 3 rfl) ?_
  refine lv_iload hx hb dJ1_init_4 (lv_at hl 4 rfl) ?_
  obtain ⟨o1, eo1, hf⟩ := ob_s hf
  refine ep_callv0 (va_runI (As := [.null, .null, .int x3, .int x4]) (rest := []) ⟨hx, hb, hml, hown, hts⟩ (metJ0_init_2 l G h a0 x3 x4 eo1) (cwI 4 hts (lw_meth q286) rfl rfl rfl (hts _ q92) (hts _ q284) (hts _ q285) rfl hdJ0_init_2.2 ⟨Nat.le_of_ble_eq_true rfl, Nat.le_of_ble_eq_true rfl⟩) (ep_preS hK hZ hw) rfl rfl hl.1 rfl (lv_room (Nat.le_of_ble_eq_true rfl)) dJ1_init_6 ⟨Nat.le_of_ble_eq_true rfl, Nat.le_of_ble_eq_true rfl⟩) hw (fun H locs hw => ?_)
  exact ep_retvW hx hb hr hlocks hw hf dJ1_init_9
theorem hdJ2_init : yJ2_init.cls = RJ2 ∧ yJ2_init.cls ≠ "java/lang/invoke/MethodHandle" ∧ yJ2_init.cls ≠ "java/lang/invoke/VarHandle" ∧ (parseMethodDescriptor yJ2_init.desc).map (fun d => d.parameters.length) = some 4 := by decide +kernel
theorem ckJ2_init {h : Hp} {a0 : Nat} {x3 : Int32} {x4 : Int32} {res : Hp} (hf : fJ2_init h a0 x3 x4 = some res) : ep_cls h a0 = some 6 := by
  unfold fJ2_init at hf
  exact (oi_c hf).1
abbrev wJ2_init (p : Program) (l : Launch) (e : Env) (s : State) (m : MethodId) (below : List Frame) (meth : Method) (c : Code) (G : EG) (h : Hp) (a0 : Nat) (x3 : Int32) (x4 : Int32) (res : Hp) (k9 n9 : Nat) (H : Heap) (locs : List Loc) (g : JFrame) : Prop := W p l e (headSpec (ws_ yJ2_init cJ2_init 5 none) ({ frames := 3, cells := 0, slots := 0, locals := 68 } : Room)).room s m ([.ref a0, .null, .null, .int x3, .int x4] : List Value).toArray below meth c H locs k9 n9 (MQ below (ep_Qv G ep_cl res) ([.ref a0, .null, .null, .int x3, .int x4] : List Value).toArray s 0 0 (ep_A G)) g
set_option maxHeartbeats 4000000 in
theorem metJ2_init (l : Launch) (G : EG) (h : Hp) (a0 : Nat) (x3 : Int32) (x4 : Int32) {res : Hp} (hf : fJ2_init h a0 x3 x4 = some res) : Met l yJ2_init (ws_ yJ2_init cJ2_init 5 none) ({ frames := 3, cells := 0, slots := 0, locals := 68 } : Room) (ep_Pc G ep_cl h [.ref a0, .null, .null, .int x3, .int x4]) (ep_Qv G ep_cl res) 0 0 (ep_A G) := by
  refine Met.ofW (cc := cJ2_init) (maxL := 5) (ret := none) (by decide) rfl ?_
  intro p e s m args below meth c s₁ B hml hv
  obtain ⟨rfl, hR, hK, hZ⟩ := hv
  have hx := B.exec
  have hb := B.bytes
  have hr := B.returns
  have hlocks := B.notSynchronized
  have hts := atoms_spec (ws := (ws_ yJ2_init cJ2_init 5 none)) B.pre
  have hts : ∀ w ∈ lw_all, w.before _ s = true := fun w h => hts w (List.mem_cons_of_mem _ h)
  have hown : s.vm.findClass RJ2 = some m.cls := findClass_of_methodNamed B.named
  have hin : meth.name = "<init>" := (name_of_methodNamed B.named B.method).1
  have hw : ep_W G ep_cl h s s.heap [] := ⟨hR, va_S.rf⟩
  have hl := lv_entry ([.ref a0, .null, .null, .int x3, .int x4]) (n := 5) (Nat.le_of_ble_eq_true rfl)
  rw [lg_entry_eq]
  generalize (lg_sl ([.ref a0, .null, .null, .int x3, .int x4]) ++ List.replicate (5 - (lg_sl ([.ref a0, .null, .null, .int x3, .int x4])).length) Slot.unset).toArray = ls at hl ⊢
  have hl : lv_has ls 5 [(0, .ref a0), (1, .null), (2, .null), (3, .int x3), (4, .int x4)] := hl
  unfold fJ2_init at hf
  have hf := (oi_c hf).2
  show wJ2_init p l e s m below meth c G h a0 x3 x4 res 0 0 s.heap ([]) (F0 m 0 ls [])
  refine lv_aload_n hx hb dJ2_init_0 rfl (lv_at hl 0 rfl) ?_
  refine lv_aload_nN hx hb dJ2_init_1 rfl (lv_at hl 1 rfl) ?_
  refine lv_aload_nN hx hb dJ2_init_2 rfl (lv_at hl 2 rfl) ?_
  refine lv_iload_n hx hb dJ2_init_3 rfl (lv_at hl 3 rfl) ?_
  refine lv_iload hx hb dJ2_init_4 (lv_at hl 4 rfl) ?_
  obtain ⟨o1, eo1, hf⟩ := ob_s hf
  refine ep_callv0 (va_runI (As := [.null, .null, .int x3, .int x4]) (rest := []) ⟨hx, hb, hml, hown, hts⟩ (metJ1_init l G h a0 x3 x4 eo1) (cwI 4 hts (lw_meth q283) rfl rfl rfl (hts _ q93) (hts _ q281) (hts _ q282) rfl hdJ1_init.2 ⟨Nat.le_of_ble_eq_true rfl, Nat.le_of_ble_eq_true rfl⟩) (ep_preS hK hZ hw) rfl rfl hl.1 rfl (lv_room (Nat.le_of_ble_eq_true rfl)) dJ2_init_6 ⟨Nat.le_of_ble_eq_true rfl, Nat.le_of_ble_eq_true rfl⟩) hw (fun H locs hw => ?_)
  exact ep_retvW hx hb hr hlocks hw hf dJ2_init_9
theorem hdX6_init : yX6_init.cls = RX6 ∧ yX6_init.cls ≠ "java/lang/invoke/MethodHandle" ∧ yX6_init.cls ≠ "java/lang/invoke/VarHandle" ∧ (parseMethodDescriptor yX6_init.desc).map (fun d => d.parameters.length) = some 2 := by decide +kernel
theorem ckX6_init {h : Hp} {a0 : Nat} {x1 : Int32} {x2 : Int32} {res : Hp} (hf : fX6_init h a0 x1 x2 = some res) : ep_cls h a0 = some 6 := by
  unfold fX6_init at hf
  exact (oi_c hf).1
abbrev wX6_init (p : Program) (l : Launch) (e : Env) (s : State) (m : MethodId) (below : List Frame) (meth : Method) (c : Code) (G : EG) (h : Hp) (a0 : Nat) (x1 : Int32) (x2 : Int32) (res : Hp) (k9 n9 : Nat) (H : Heap) (locs : List Loc) (g : JFrame) : Prop := W p l e (headSpec (ws_ yX6_init cX6_init 3 none) ({ frames := 4, cells := 0, slots := 0, locals := 92 } : Room)).room s m ([.ref a0, .int x1, .int x2] : List Value).toArray below meth c H locs k9 n9 (MQ below (ep_Qv G ep_cl res) ([.ref a0, .int x1, .int x2] : List Value).toArray s 0 0 (ep_A G)) g
set_option maxHeartbeats 4000000 in
theorem metX6_init (l : Launch) (G : EG) (h : Hp) (a0 : Nat) (x1 : Int32) (x2 : Int32) {res : Hp} (hf : fX6_init h a0 x1 x2 = some res) : Met l yX6_init (ws_ yX6_init cX6_init 3 none) ({ frames := 4, cells := 0, slots := 0, locals := 92 } : Room) (ep_Pc G ep_cl h [.ref a0, .int x1, .int x2]) (ep_Qv G ep_cl res) 0 0 (ep_A G) := by
  refine Met.ofW (cc := cX6_init) (maxL := 3) (ret := none) (by decide) rfl ?_
  intro p e s m args below meth c s₁ B hml hv
  obtain ⟨rfl, hR, hK, hZ⟩ := hv
  have hx := B.exec
  have hb := B.bytes
  have hr := B.returns
  have hlocks := B.notSynchronized
  have hts := atoms_spec (ws := (ws_ yX6_init cX6_init 3 none)) B.pre
  have hts : ∀ w ∈ lw_all, w.before _ s = true := fun w h => hts w (List.mem_cons_of_mem _ h)
  have hown : s.vm.findClass RX6 = some m.cls := findClass_of_methodNamed B.named
  have hin : meth.name = "<init>" := (name_of_methodNamed B.named B.method).1
  have hw : ep_W G ep_cl h s s.heap [] := ⟨hR, va_S.rf⟩
  have hl := lv_entry ([.ref a0, .int x1, .int x2]) (n := 3) (Nat.le_of_ble_eq_true rfl)
  rw [lg_entry_eq]
  generalize (lg_sl ([.ref a0, .int x1, .int x2]) ++ List.replicate (3 - (lg_sl ([.ref a0, .int x1, .int x2])).length) Slot.unset).toArray = ls at hl ⊢
  have hl : lv_has ls 3 [(0, .ref a0), (1, .int x1), (2, .int x2)] := hl
  unfold fX6_init at hf
  have hf := (oi_c hf).2
  show wX6_init p l e s m below meth c G h a0 x1 x2 res 0 0 s.heap ([]) (F0 m 0 ls [])
  refine lv_aload_n hx hb dX6_init_0 rfl (lv_at hl 0 rfl) ?_
  refine lv_null hx hb dX6_init_1 ?_
  refine lv_null hx hb dX6_init_2 ?_
  refine lv_iconst (v := iI 0) hx hb dX6_init_3 rfl ?_
  refine lv_iconst (v := iI 0) hx hb dX6_init_4 rfl ?_
  obtain ⟨o1, eo1, hf⟩ := ob_s hf
  refine ep_callv0 (va_runI (As := [.null, .null, .int (iI 0), .int (iI 0)]) (rest := []) ⟨hx, hb, hml, hown, hts⟩ (metJ2_init l G h a0 (iI 0) (iI 0) eo1) (cwI 4 hts (lw_meth q280) rfl rfl rfl (hts _ q94) (hts _ q278) (hts _ q279) rfl hdJ2_init.2 ⟨Nat.le_of_ble_eq_true rfl, Nat.le_of_ble_eq_true rfl⟩) (ep_preS hK hZ hw) rfl rfl hl.1 rfl (lv_room (Nat.le_of_ble_eq_true rfl)) dX6_init_5 ⟨Nat.le_of_ble_eq_true rfl, Nat.le_of_ble_eq_true rfl⟩) hw (fun H locs hw => ?_)
  refine lv_aload_n hx hb dX6_init_8 rfl (lv_at hl 0 rfl) ?_
  refine lv_iload_n hx hb dX6_init_9 rfl (lv_at hl 1 rfl) ?_
  obtain ⟨h2, eh2, hf⟩ := ob_s hf
  refine ep_putF (C := RX6) (T := TX6) (N := 8) (ci := 6) hx hb hts in_X6 tyX6 tyX6_ok nmX6 hown hK hw rfl (by decide) 6 (by decide) q287 rfl hin rfl rfl rfl eh2 dX6_init_10 (fun H locs hw => ?_)
  refine lv_aload_n hx hb dX6_init_13 rfl (lv_at hl 0 rfl) ?_
  refine lv_iload_n hx hb dX6_init_14 rfl (lv_at hl 2 rfl) ?_
  obtain ⟨h3, eh3, hf⟩ := ob_s hf
  refine ep_putF (C := RX6) (T := TX6) (N := 8) (ci := 6) hx hb hts in_X6 tyX6 tyX6_ok nmX6 hown hK hw rfl (by decide) 7 (by decide) q289 rfl hin rfl rfl rfl eh3 dX6_init_15 (fun H locs hw => ?_)
  exact ep_retvW hx hb hr hlocks hw hf dX6_init_18
theorem hdX5_must : yX5_must.cls = RX5 ∧ yX5_must.cls ≠ "java/lang/invoke/MethodHandle" ∧ yX5_must.cls ≠ "java/lang/invoke/VarHandle" ∧ (parseMethodDescriptor yX5_must.desc).map (fun d => d.parameters.length) = some 2 := by decide +kernel
theorem ckX5_must {h : Hp} {a0 : Nat} {x1 : Int32} {x2 : Int32} {res : Thr ⊕ (Hp)} (hf : fX5_must h a0 x1 x2 = some res) : ep_cls h a0 = some 5 := by
  unfold fX5_must at hf
  exact (oi_c hf).1
abbrev wX5_must (p : Program) (l : Launch) (e : Env) (s : State) (m : MethodId) (below : List Frame) (meth : Method) (c : Code) (G : EG) (h : Hp) (a0 : Nat) (x1 : Int32) (x2 : Int32) (res : Hp) (k9 n9 : Nat) (H : Heap) (locs : List Loc) (g : JFrame) : Prop := W p l e (headSpec (ws_ yX5_must cX5_must 3 none) ({ frames := 5, cells := 0, slots := 0, locals := 114 } : Room)).room s m ([.ref a0, .int x1, .int x2] : List Value).toArray below meth c H locs k9 n9 (MQ below (ep_Qv G ep_cl res) ([.ref a0, .int x1, .int x2] : List Value).toArray s 0 0 (ep_A G)) g
set_option maxHeartbeats 4000000 in
theorem metX5_must (l : Launch) (G : EG) (h : Hp) (a0 : Nat) (x1 : Int32) (x2 : Int32) {res : Hp} (hf : fX5_must h a0 x1 x2 = some (.inr res)) : Met l yX5_must (ws_ yX5_must cX5_must 3 none) ({ frames := 5, cells := 0, slots := 0, locals := 114 } : Room) (ep_Pc G ep_cl h [.ref a0, .int x1, .int x2]) (ep_Qv G ep_cl res) 0 0 (ep_A G) := by
  refine Met.ofW (cc := cX5_must) (maxL := 3) (ret := none) (by decide) rfl ?_
  intro p e s m args below meth c s₁ B hml hv
  obtain ⟨rfl, hR, hK, hZ⟩ := hv
  have hx := B.exec
  have hb := B.bytes
  have hr := B.returns
  have hlocks := B.notSynchronized
  have hts := atoms_spec (ws := (ws_ yX5_must cX5_must 3 none)) B.pre
  have hts : ∀ w ∈ lw_all, w.before _ s = true := fun w h => hts w (List.mem_cons_of_mem _ h)
  have hown : s.vm.findClass RX5 = some m.cls := findClass_of_methodNamed B.named
  have hw : ep_W G ep_cl h s s.heap [] := ⟨hR, va_S.rf⟩
  have hl := lv_entry ([.ref a0, .int x1, .int x2]) (n := 3) (Nat.le_of_ble_eq_true rfl)
  rw [lg_entry_eq]
  generalize (lg_sl ([.ref a0, .int x1, .int x2]) ++ List.replicate (3 - (lg_sl ([.ref a0, .int x1, .int x2])).length) Slot.unset).toArray = ls at hl ⊢
  have hl : lv_has ls 3 [(0, .ref a0), (1, .int x1), (2, .int x2)] := hl
  unfold fX5_must at hf
  have hf := (oi_c hf).2
  show wX5_must p l e s m below meth c G h a0 x1 x2 res 0 0 s.heap ([]) (F0 m 0 ls [])
  refine lv_iload_n hx hb dX5_must_0 rfl (lv_at hl 1 rfl) ?_
  refine lv_if_ne (tgt := 17) hx hb dX5_must_1 (by decide) (fun c1 => ?_) (fun c1 => ?_)
  · have hf := oi_f hf c1
    exact ep_retvW hx hb hr hlocks hw (sm_r hf) dX5_must_17
  · have hf := oi_t hf c1
    obtain ⟨h2, eh2, hf⟩ := ob_s hf
    obtain ⟨v3, ev3, hf⟩ := ob_s hf
    obtain ⟨o4, eo4, hf⟩ := ob_s hf
    obtain ⟨t5, et5, hf⟩ := ob_s hf
    cases hf
abbrev wTX5_must (p : Program) (l : Launch) (e : Env) (s : State) (m : MethodId) (below : List Frame) (meth : Method) (c : Code) (G : EG) (h : Hp) (a0 : Nat) (x1 : Int32) (x2 : Int32) (res : Thr) (k9 n9 : Nat) (H : Heap) (locs : List Loc) (g : JFrame) : Prop := W p l e (headSpec (ws_ yX5_must cX5_must 3 none) ({ frames := 5, cells := 1, slots := 8, locals := 114 } : Room)).room s m ([.ref a0, .int x1, .int x2] : List Value).toArray below meth c H locs k9 n9 (MQT below (ep_Qt G ep_cl res) ([.ref a0, .int x1, .int x2] : List Value).toArray s 1 8 (ep_A G)) g
set_option maxHeartbeats 4000000 in
theorem metTX5_must (l : Launch) (G : EG) (h : Hp) (a0 : Nat) (x1 : Int32) (x2 : Int32) {res : Thr} (hf : fX5_must h a0 x1 x2 = some (.inl res)) : MetT l yX5_must (ws_ yX5_must cX5_must 3 none) ({ frames := 5, cells := 1, slots := 8, locals := 114 } : Room) (ep_Pc G ep_cl h [.ref a0, .int x1, .int x2]) (ep_Qt G ep_cl res) 1 8 (ep_A G) := by
  refine MetT.ofW (cc := cX5_must) (maxL := 3) (ret := none) (by decide) rfl ?_
  intro p e s m args below meth c s₁ B hml hv
  obtain ⟨rfl, hR, hK, hZ⟩ := hv
  have hx := B.exec
  have hb := B.bytes
  have hr := B.returns
  have hlocks := B.notSynchronized
  have hts := atoms_spec (ws := (ws_ yX5_must cX5_must 3 none)) B.pre
  have hno : c.exceptionTable.toList = [] := by
    have h := B.noHandlers (hts _ List.mem_cons_self)
    simpa using h
  have hts : ∀ w ∈ lw_all, w.before _ s = true := fun w h => hts w (List.mem_cons_of_mem _ h)
  have hown : s.vm.findClass RX5 = some m.cls := findClass_of_methodNamed B.named
  have hw : ep_W G ep_cl h s s.heap [] := ⟨hR, va_S.rf⟩
  have hl := lv_entry ([.ref a0, .int x1, .int x2]) (n := 3) (Nat.le_of_ble_eq_true rfl)
  rw [lg_entry_eq]
  generalize (lg_sl ([.ref a0, .int x1, .int x2]) ++ List.replicate (3 - (lg_sl ([.ref a0, .int x1, .int x2])).length) Slot.unset).toArray = ls at hl ⊢
  have hl : lv_has ls 3 [(0, .ref a0), (1, .int x1), (2, .int x2)] := hl
  unfold fX5_must at hf
  have hf := (oi_c hf).2
  show wTX5_must p l e s m below meth c G h a0 x1 x2 res 0 0 s.heap ([]) (F0 m 0 ls [])
  refine lv_iload_n hx hb dX5_must_0 rfl (lv_at hl 1 rfl) ?_
  refine lv_if_ne (tgt := 17) hx hb dX5_must_1 (by decide) (fun c1 => ?_) (fun c1 => ?_)
  · have hf := oi_f hf c1
    cases hf
  · have hf := oi_t hf c1
    obtain ⟨h2, eh2, hf⟩ := ob_s hf
    refine ep_newH (C := RX6) (T := TX6) (N := 8) (ci := 6) hx hb hts in_X6 tyX6 tyX6_ok hown q219 q220 q95 hK hw rfl (by decide) (Nat.le_of_ble_eq_true rfl) (Nat.le_of_ble_eq_true rfl) eh2 dX5_must_4 (fun H locs hw => ?_)
    refine lv_dup hx hb dX5_must_7 rfl ?_
    refine lv_iload_n hx hb dX5_must_8 rfl (lv_at hl 2 rfl) ?_
    refine lv_aload_n hx hb dX5_must_9 rfl (lv_at hl 0 rfl) ?_
    obtain ⟨v3, ev3, hf⟩ := ob_s hf
    refine ep_get (C := RX5) (T := TX5) (N := 11) (ci := 5) hx hb hts in_X5 hown hK hw rfl 7 (by decide) q320 (gI_f ev3) dX5_must_10 ?_
    obtain ⟨o4, eo4, hf⟩ := ob_s hf
    refine ep_callv0 (va_runI (As := [.int x2, .int v3]) (rest := [.ref h.1]) ⟨hx, hb, hml, hown, hts⟩ (metX6_init l G h2 h.1 x2 v3 eo4) (cwI 2 hts (lw_meth q277) rfl rfl rfl (hts _ q95) (hts _ q275) (hts _ q276) rfl hdX6_init.2 ⟨Nat.le_of_ble_eq_true rfl, Nat.le_of_ble_eq_true rfl⟩) (ep_preS hK hZ hw) rfl rfl hl.1 rfl (lv_room (Nat.le_of_ble_eq_true rfl)) dX5_must_13 ⟨Nat.le_of_ble_eq_true rfl, Nat.le_of_ble_eq_true rfl⟩) hw (fun H locs hw => ?_)
    obtain ⟨t5, et5, hf⟩ := ob_s hf
    exact ep_athrow' hx hb hno hlocks hK hw rfl et5 hf dX5_must_16
theorem hdX5_next : yX5_next.cls = RX5 ∧ yX5_next.cls ≠ "java/lang/invoke/MethodHandle" ∧ yX5_next.cls ≠ "java/lang/invoke/VarHandle" ∧ (parseMethodDescriptor yX5_next.desc).map (fun d => d.parameters.length) = some 0 := by decide +kernel
theorem ckX5_next {h : Hp} {a0 : Nat} {res : Thr ⊕ (Hp)} (hf : fX5_next h a0 = some res) : ep_cls h a0 = some 5 := by
  unfold fX5_next at hf
  exact (oi_c hf).1
abbrev wX5_next (p : Program) (l : Launch) (e : Env) (s : State) (m : MethodId) (below : List Frame) (meth : Method) (c : Code) (G : EG) (h : Hp) (a0 : Nat) (res : Hp) (k9 n9 : Nat) (H : Heap) (locs : List Loc) (g : JFrame) : Prop := W p l e (headSpec (ws_ yX5_next cX5_next 2 none) ({ frames := 6, cells := 0, slots := 0, locals := 136 } : Room)).room s m ([.ref a0] : List Value).toArray below meth c H locs k9 n9 (MQ below (ep_Qv G ep_cl res) ([.ref a0] : List Value).toArray s 0 0 (ep_A G)) g
set_option maxHeartbeats 4000000 in
theorem metX5_next (l : Launch) (G : EG) (h : Hp) (a0 : Nat) {res : Hp} (hf : fX5_next h a0 = some (.inr res)) : Met l yX5_next (ws_ yX5_next cX5_next 2 none) ({ frames := 6, cells := 0, slots := 0, locals := 136 } : Room) (ep_Pc G ep_cl h [.ref a0]) (ep_Qv G ep_cl res) 0 0 (ep_A G) := by
  refine Met.ofW (cc := cX5_next) (maxL := 2) (ret := none) (by decide) rfl ?_
  intro p e s m args below meth c s₁ B hml hv
  obtain ⟨rfl, hR, hK, hZ⟩ := hv
  have hx := B.exec
  have hb := B.bytes
  have hr := B.returns
  have hlocks := B.notSynchronized
  have hts := atoms_spec (ws := (ws_ yX5_next cX5_next 2 none)) B.pre
  have hts : ∀ w ∈ lw_all, w.before _ s = true := fun w h => hts w (List.mem_cons_of_mem _ h)
  have hown : s.vm.findClass RX5 = some m.cls := findClass_of_methodNamed B.named
  have hw : ep_W G ep_cl h s s.heap [] := ⟨hR, va_S.rf⟩
  have hl := lv_entry ([.ref a0]) (n := 2) (Nat.le_of_ble_eq_true rfl)
  rw [lg_entry_eq]
  generalize (lg_sl ([.ref a0]) ++ List.replicate (2 - (lg_sl ([.ref a0])).length) Slot.unset).toArray = ls at hl ⊢
  have hl : lv_has ls 2 [(0, .ref a0)] := hl
  unfold fX5_next at hf
  have hf := (oi_c hf).2
  show wX5_next p l e s m below meth c G h a0 res 0 0 s.heap ([]) (F0 m 0 ls [])
  refine lv_aload_n hx hb dX5_next_0 rfl (lv_at hl 0 rfl) ?_
  refine lv_aload_n hx hb dX5_next_1 rfl (lv_at hl 0 rfl) ?_
  obtain ⟨v1, ev1, hf⟩ := ob_s hf
  refine ep_get (C := RX5) (T := TX5) (N := 11) (ci := 5) hx hb hts in_X5 hown hK hw rfl 8 (by decide) q321 (gI_f ev1) dX5_next_2 ?_
  obtain ⟨h2, eh2, hf⟩ := ob_s hf
  refine ep_put (C := RX5) (T := TX5) (N := 11) (ci := 5) hx hb hts in_X5 tyX5 tyX5_ok nmX5 hown hK hw rfl (by decide) 7 (by decide) q320 rfl rfl rfl eh2 dX5_next_5 (fun H locs hw => ?_)
  obtain ⟨o3, ho3, hf⟩ := ob_s hf
  have hJ3 : ∀ (H : Heap) (locs : List Loc) (ls : Array Slot), ep_W G ep_cl o3 s H locs → lv_has ls 2 [(0, .ref a0)] → wX5_next p l e s m below meth c G h a0 res 0 0 H locs (F0 m 34 ls []) := by
    intro H locs ls hw hl
    refine lv_aload_n hx hb dX5_next_34 rfl (lv_at hl 0 rfl) ?_
    refine lv_aload_n hx hb dX5_next_35 rfl (lv_at hl 0 rfl) ?_
    obtain ⟨v9, ev9, hf⟩ := ob_s hf
    refine ep_get (C := RX5) (T := TX5) (N := 11) (ci := 5) hx hb hts in_X5 hown hK hw rfl 7 (by decide) q320 (gI_f ev9) dX5_next_36 ?_
    obtain ⟨v10, ev10, hf⟩ := ob_s hf
    refine ep_calli0 (va_runV (As := [.int v9]) (rest := []) ⟨hx, hb, hml, hown, hts⟩ (metX5_at l G o3 a0 v9 ev10) (cwV 1 hts (lw_V q206 q208 qs1 q91 q209) rfl rfl rfl hdX5_at ⟨Nat.le_of_ble_eq_true rfl, Nat.le_of_ble_eq_true rfl⟩) (ep_preV hK hZ hw rfl (ckX5_at ev10)) rfl rfl hl.1 rfl (lv_room (Nat.le_of_ble_eq_true rfl)) dX5_next_39 ⟨Nat.le_of_ble_eq_true rfl, Nat.le_of_ble_eq_true rfl⟩) hw (fun H locs hw => ?_)
    refine lv_istore_n (lv' := [(1, .int v10), (0, .ref a0)]) hx hb dX5_next_42 rfl hl (by decide) rfl (fun ls hl => ?_)
    refine lv_aload_n hx hb dX5_next_43 rfl (lv_at hl 1 rfl) ?_
    refine lv_aload_n hx hb dX5_next_44 rfl (lv_at hl 1 rfl) ?_
    obtain ⟨v11, ev11, hf⟩ := ob_s hf
    refine ep_get (C := RX5) (T := TX5) (N := 11) (ci := 5) hx hb hts in_X5 hown hK hw rfl 7 (by decide) q320 (gI_f ev11) dX5_next_45 ?_
    refine lv_iconst (v := iI 1) hx hb dX5_next_48 rfl ?_
    refine lv_iadd hx hb dX5_next_49 ?_
    obtain ⟨h12, eh12, hf⟩ := ob_s hf
    refine ep_put (C := RX5) (T := TX5) (N := 11) (ci := 5) hx hb hts in_X5 tyX5 tyX5_ok nmX5 hown hK hw rfl (by decide) 8 (by decide) q321 rfl rfl rfl eh12 dX5_next_50 (fun H locs hw => ?_)
    refine lv_aload_n hx hb dX5_next_53 rfl (lv_at hl 1 rfl) ?_
    refine lv_iload_n hx hb dX5_next_54 rfl (lv_at hl 0 rfl) ?_
    obtain ⟨h13, eh13, hf⟩ := ob_s hf
    refine ep_put (C := RX5) (T := TX5) (N := 11) (ci := 5) hx hb hts in_X5 tyX5 tyX5_ok nmX5 hown hK hw rfl (by decide) 10 (by decide) q323 rfl rfl rfl eh13 dX5_next_55 (fun H locs hw => ?_)
    refine lv_iload_n hx hb dX5_next_58 rfl (lv_at hl 0 rfl) ?_
    refine lv_bipush (v := iI (-4)) hx hb dX5_next_59 (by decide) ?_
    refine lv_icmp_ne (tgt := 80) hx hb dX5_next_61 (by decide) (fun c14 => ?_) (fun c14 => ?_)
    · have hf := oi_f hf c14
      refine lv_iload_n hx hb dX5_next_80 rfl (lv_at hl 0 rfl) ?_
      refine lv_i2l (v := v10.toInt64) hx hb dX5_next_81 rfl ?_
      refine lv_ldc2 (v := (97 : Int64)) hx hb hown (hts _ q210) dX5_next_82 ?_
      refine lv_ldc2 (v := (122 : Int64)) hx hb hown (hts _ q211) dX5_next_85 ?_
      obtain ⟨v15, ev15, hf⟩ := ob_s hf
      refine ep_calli0 (va_runSN (As := [.long v10.toInt64, .long (97 : Int64), .long (122 : Int64)]) (rest := []) ⟨hx, hb, hml, hown, hts⟩ (metX0_isIn l G h13 v10.toInt64 (97 : Int64) (122 : Int64) ev15) ⟨va_cnB 3 hts (lw_meth q116) rfl rfl rfl (hK.nest q212 rfl) (hts _ q85) hsX0_isIn ⟨Nat.le_of_ble_eq_true rfl, Nat.le_of_ble_eq_true rfl⟩, hts _ q115, trivial⟩ (ep_preS hK hZ hw) rfl rfl hl.1 rfl (lv_room (Nat.le_of_ble_eq_true rfl)) dX5_next_88 ⟨Nat.le_of_ble_eq_true rfl, Nat.le_of_ble_eq_true rfl⟩) hw (fun H locs hw => ?_)
      refine lv_if_eq (tgt := 136) hx hb dX5_next_91 (by decide) (fun c16 => ?_) (fun c16 => ?_)
      · have hf := oi_t hf c16
        refine lv_iload_n hx hb dX5_next_136 rfl (lv_at hl 0 rfl) ?_
        refine lv_i2l (v := v10.toInt64) hx hb dX5_next_137 rfl ?_
        refine lv_ldc2 (v := (48 : Int64)) hx hb hown (hts _ q213) dX5_next_138 ?_
        refine lv_ldc2 (v := (57 : Int64)) hx hb hown (hts _ q214) dX5_next_141 ?_
        obtain ⟨v17, ev17, hf⟩ := ob_s hf
        refine ep_calli0 (va_runSN (As := [.long v10.toInt64, .long (48 : Int64), .long (57 : Int64)]) (rest := []) ⟨hx, hb, hml, hown, hts⟩ (metX0_isIn l G h13 v10.toInt64 (48 : Int64) (57 : Int64) ev17) ⟨va_cnB 3 hts (lw_meth q116) rfl rfl rfl (hK.nest q212 rfl) (hts _ q85) hsX0_isIn ⟨Nat.le_of_ble_eq_true rfl, Nat.le_of_ble_eq_true rfl⟩, hts _ q115, trivial⟩ (ep_preS hK hZ hw) rfl rfl hl.1 rfl (lv_room (Nat.le_of_ble_eq_true rfl)) dX5_next_144 ⟨Nat.le_of_ble_eq_true rfl, Nat.le_of_ble_eq_true rfl⟩) hw (fun H locs hw => ?_)
        refine lv_if_eq (tgt := 271) hx hb dX5_next_147 (by decide) (fun c18 => ?_) (fun c18 => ?_)
        · have hf := oi_t hf c18
          refine lv_aload_n hx hb dX5_next_271 rfl (lv_at hl 1 rfl) ?_
          refine lv_iload_n hx hb dX5_next_272 rfl (lv_at hl 0 rfl) ?_
          refine lv_bipush (v := iI 59) hx hb dX5_next_273 (by decide) ?_
          have hJ19 : wX5_next p l e s m below meth c G h a0 res 0 0 H locs (F0 m 283 ls [.int (if v10 = (iI 59) then iI 1 else iI 0), .ref a0]) := by
            refine lv_iconst (v := iI 1) hx hb dX5_next_283 rfl ?_
            obtain ⟨zo21, eo21, hko21⟩ := orL_s hf
            rcases zo21 with xo21 | o21
            · have hf := orL_1 hko21 rfl
              cases hf
            have hf := orL_2 hko21 rfl
            refine ep_callv0 (va_runV (As := [.int (if v10 = (iI 59) then iI 1 else iI 0), .int (iI 1)]) (rest := []) ⟨hx, hb, hml, hown, hts⟩ (metX5_must l G h13 a0 (if v10 = (iI 59) then iI 1 else iI 0) (iI 1) eo21) (cwV 2 hts (lw_V q215 q217 qs2 q91 q218) rfl rfl rfl hdX5_must ⟨Nat.le_of_ble_eq_true rfl, Nat.le_of_ble_eq_true rfl⟩) (ep_preV hK hZ hw rfl (ckX5_must eo21)) rfl rfl hl.1 rfl (lv_room (Nat.le_of_ble_eq_true rfl)) dX5_next_284 ⟨Nat.le_of_ble_eq_true rfl, Nat.le_of_ble_eq_true rfl⟩) hw (fun H locs hw => ?_)
            refine lv_aload_n hx hb dX5_next_287 rfl (lv_at hl 1 rfl) ?_
            refine lv_iconst (v := iI 3) hx hb dX5_next_288 rfl ?_
            obtain ⟨h22, eh22, hf⟩ := ob_s hf
            refine ep_put (C := RX5) (T := TX5) (N := 11) (ci := 5) hx hb hts in_X5 tyX5 tyX5_ok nmX5 hown hK hw rfl (by decide) 9 (by decide) q322 rfl rfl rfl eh22 dX5_next_289 (fun H locs hw => ?_)
            exact ep_retvW hx hb hr hlocks hw (sm_r hf) dX5_next_292
          refine lv_icmp_ne (tgt := 282) hx hb dX5_next_275 (by decide) (fun c20 => ?_) (fun c20 => ?_)
          · refine lv_iconst (v := iI 0) hx hb dX5_next_282 rfl ?_
            rw [if_neg c20] at hJ19
            exact hJ19
          · refine lv_iconst (v := iI 1) hx hb dX5_next_278 rfl ?_
            refine lv_goto (tgt := 283) hx hb dX5_next_279 (by decide) ?_
            rw [if_pos c20] at hJ19
            exact hJ19
        · have hf := oi_f hf c18
          refine lv_aload_n hx hb dX5_next_150 rfl (lv_at hl 1 rfl) ?_
          refine lv_aload_n hx hb dX5_next_151 rfl (lv_at hl 1 rfl) ?_
          obtain ⟨v23, ev23, hf⟩ := ob_s hf
          refine ep_get (C := RX5) (T := TX5) (N := 11) (ci := 5) hx hb hts in_X5 hown hK hw rfl 7 (by decide) q320 (gI_f ev23) dX5_next_152 ?_
          obtain ⟨h24, eh24, hf⟩ := ob_s hf
          refine ep_put (C := RX5) (T := TX5) (N := 11) (ci := 5) hx hb hts in_X5 tyX5 tyX5_ok nmX5 hown hK hw rfl (by decide) 8 (by decide) q321 rfl rfl rfl eh24 dX5_next_155 (fun H locs hw => ?_)
          refine lv_aload_n hx hb dX5_next_158 rfl (lv_at hl 1 rfl) ?_
          refine lv_iconst (v := iI 0) hx hb dX5_next_159 rfl ?_
          obtain ⟨h25, eh25, hf⟩ := ob_s hf
          refine ep_put (C := RX5) (T := TX5) (N := 11) (ci := 5) hx hb hts in_X5 tyX5 tyX5_ok nmX5 hown hK hw rfl (by decide) 10 (by decide) q323 rfl rfl rfl eh25 dX5_next_160 (fun H locs hw => ?_)
          obtain ⟨o26, ho26, hf⟩ := ob_s hf
          have hJ26 : ∀ (H : Heap) (locs : List Loc) (ls : Array Slot), ep_W G ep_cl o26 s H locs → lv_has ls 2 [(0, .ref a0)] → wX5_next p l e s m below meth c G h a0 res 0 0 H locs (F0 m 240 ls []) := by
            intro H locs ls hw hl
            refine lv_aload_n hx hb dX5_next_240 rfl (lv_at hl 0 rfl) ?_
            refine lv_aload_n hx hb dX5_next_241 rfl (lv_at hl 0 rfl) ?_
            obtain ⟨v42, ev42, hf⟩ := ob_s hf
            refine ep_get (C := RX5) (T := TX5) (N := 11) (ci := 5) hx hb hts in_X5 hown hK hw rfl 8 (by decide) q321 (gI_f ev42) dX5_next_242 ?_
            refine lv_aload_n hx hb dX5_next_245 rfl (lv_at hl 0 rfl) ?_
            obtain ⟨v43, ev43, hf⟩ := ob_s hf
            refine ep_get (C := RX5) (T := TX5) (N := 11) (ci := 5) hx hb hts in_X5 hown hK hw rfl 7 (by decide) q320 (gI_f ev43) dX5_next_246 ?_
            refine lv_isub hx hb dX5_next_249 ?_
            refine lv_iconst (v := iI 2) hx hb dX5_next_250 rfl ?_
            have hJ44 : wX5_next p l e s m below meth c G h a0 res 0 0 H locs (F0 m 259 ls [.int (if (iI 2) < (v42 - v43) then iI 0 else iI 1), .ref a0]) := by
              refine lv_iconst (v := iI 1) hx hb dX5_next_259 rfl ?_
              obtain ⟨zo46, eo46, hko46⟩ := orL_s hf
              rcases zo46 with xo46 | o46
              · have hf := orL_1 hko46 rfl
                cases hf
              have hf := orL_2 hko46 rfl
              refine ep_callv0 (va_runV (As := [.int (if (iI 2) < (v42 - v43) then iI 0 else iI 1), .int (iI 1)]) (rest := []) ⟨hx, hb, hml, hown, hts⟩ (metX5_must l G o26 a0 (if (iI 2) < (v42 - v43) then iI 0 else iI 1) (iI 1) eo46) (cwV 2 hts (lw_V q215 q217 qs2 q91 q218) rfl rfl rfl hdX5_must ⟨Nat.le_of_ble_eq_true rfl, Nat.le_of_ble_eq_true rfl⟩) (ep_preV hK hZ hw rfl (ckX5_must eo46)) rfl rfl hl.1 rfl (lv_room (Nat.le_of_ble_eq_true rfl)) dX5_next_260 ⟨Nat.le_of_ble_eq_true rfl, Nat.le_of_ble_eq_true rfl⟩) hw (fun H locs hw => ?_)
              refine lv_aload_n hx hb dX5_next_263 rfl (lv_at hl 0 rfl) ?_
              refine lv_iconst (v := iI 2) hx hb dX5_next_264 rfl ?_
              obtain ⟨h47, eh47, hf⟩ := ob_s hf
              refine ep_put (C := RX5) (T := TX5) (N := 11) (ci := 5) hx hb hts in_X5 tyX5 tyX5_ok nmX5 hown hK hw rfl (by decide) 9 (by decide) q322 rfl rfl rfl eh47 dX5_next_265 (fun H locs hw => ?_)
              refine lv_goto (tgt := 292) hx hb dX5_next_268 (by decide) ?_
              exact ep_retvW hx hb hr hlocks hw (sm_r hf) dX5_next_292
            refine lv_icmp_gt (tgt := 258) hx hb dX5_next_251 (by decide) (fun c45 => ?_) (fun c45 => ?_)
            · refine lv_iconst (v := iI 0) hx hb dX5_next_258 rfl ?_
              rw [if_pos c45] at hJ44
              exact hJ44
            · refine lv_iconst (v := iI 1) hx hb dX5_next_254 rfl ?_
              refine lv_goto (tgt := 259) hx hb dX5_next_255 (by decide) ?_
              rw [if_neg c45] at hJ44
              exact hJ44
          have hL26 : ∀ (fu : Nat) (h : Hp), fX5_next_L163 a0 fu h = some o26 → ∀ (H : Heap) (locs : List Loc) (ls : Array Slot), ep_W G ep_cl h s H locs → lv_has ls 2 [(0, .ref a0)] → wX5_next p l e s m below meth c G h a0 res 0 0 H locs (F0 m 163 ls []) := by
            intro fu
            induction fu with
            | zero => intro h ho26; cases ho26
            | succ fu ih26 =>
              intro h ho26 H locs ls hw hl
              rw [fX5_next_L163] at ho26
              refine lv_aload_n hx hb dX5_next_163 rfl (lv_at hl 0 rfl) ?_
              refine lv_aload_n hx hb dX5_next_164 rfl (lv_at hl 0 rfl) ?_
              obtain ⟨v27, ev27, ho26⟩ := ob_s ho26
              refine ep_get (C := RX5) (T := TX5) (N := 11) (ci := 5) hx hb hts in_X5 hown hK hw rfl 8 (by decide) q321 (gI_f ev27) dX5_next_165 ?_
              obtain ⟨v28, ev28, ho26⟩ := ob_s ho26
              refine ep_calli0 (va_runV (As := [.int v27]) (rest := []) ⟨hx, hb, hml, hown, hts⟩ (metX5_at l G h a0 v27 ev28) (cwV 1 hts (lw_V q206 q208 qs1 q91 q209) rfl rfl rfl hdX5_at ⟨Nat.le_of_ble_eq_true rfl, Nat.le_of_ble_eq_true rfl⟩) (ep_preV hK hZ hw rfl (ckX5_at ev28)) rfl rfl hl.1 rfl (lv_room (Nat.le_of_ble_eq_true rfl)) dX5_next_168 ⟨Nat.le_of_ble_eq_true rfl, Nat.le_of_ble_eq_true rfl⟩) hw (fun H locs hw => ?_)
              refine lv_i2l (v := v28.toInt64) hx hb dX5_next_171 rfl ?_
              refine lv_ldc2 (v := (48 : Int64)) hx hb hown (hts _ q213) dX5_next_172 ?_
              refine lv_ldc2 (v := (57 : Int64)) hx hb hown (hts _ q214) dX5_next_175 ?_
              obtain ⟨v29, ev29, ho26⟩ := ob_s ho26
              refine ep_calli0 (va_runSN (As := [.long v28.toInt64, .long (48 : Int64), .long (57 : Int64)]) (rest := []) ⟨hx, hb, hml, hown, hts⟩ (metX0_isIn l G h v28.toInt64 (48 : Int64) (57 : Int64) ev29) ⟨va_cnB 3 hts (lw_meth q116) rfl rfl rfl (hK.nest q212 rfl) (hts _ q85) hsX0_isIn ⟨Nat.le_of_ble_eq_true rfl, Nat.le_of_ble_eq_true rfl⟩, hts _ q115, trivial⟩ (ep_preS hK hZ hw) rfl rfl hl.1 rfl (lv_room (Nat.le_of_ble_eq_true rfl)) dX5_next_178 ⟨Nat.le_of_ble_eq_true rfl, Nat.le_of_ble_eq_true rfl⟩) hw (fun H locs hw => ?_)
              refine lv_if_eq (tgt := 240) hx hb dX5_next_181 (by decide) (fun c30 => ?_) (fun c30 => ?_)
              · have ho26 := oi_t ho26 c30
                obtain rfl := Option.some.inj ho26
                exact hJ26 _ _ _ hw (lv_sub hl [0] rfl)
              · have ho26 := oi_f ho26 c30
                refine lv_aload_n hx hb dX5_next_184 rfl (lv_at hl 0 rfl) ?_
                refine lv_aload_n hx hb dX5_next_185 rfl (lv_at hl 0 rfl) ?_
                obtain ⟨v31, ev31, ho26⟩ := ob_s ho26
                refine ep_get (C := RX5) (T := TX5) (N := 11) (ci := 5) hx hb hts in_X5 hown hK hw rfl 8 (by decide) q321 (gI_f ev31) dX5_next_186 ?_
                refine lv_aload_n hx hb dX5_next_189 rfl (lv_at hl 0 rfl) ?_
                obtain ⟨v32, ev32, ho26⟩ := ob_s ho26
                refine ep_get (C := RX5) (T := TX5) (N := 11) (ci := 5) hx hb hts in_X5 hown hK hw rfl 7 (by decide) q320 (gI_f ev32) dX5_next_190 ?_
                refine lv_isub hx hb dX5_next_193 ?_
                refine lv_iconst (v := iI 2) hx hb dX5_next_194 rfl ?_
                obtain ⟨o33, ho33, ho26⟩ := ob_s ho26
                have hJ33 : ∀ (H : Heap) (locs : List Loc) (ls : Array Slot), ep_W G ep_cl h s H locs → lv_has ls 2 [(0, .ref a0)] → wX5_next p l e s m below meth c G h a0 res 0 0 H locs (F0 m 224 ls [.int o33, .ref a0]) := by
                  intro H locs ls hw hl
                  obtain ⟨h39, eh39, ho26⟩ := ob_s ho26
                  refine ep_put (C := RX5) (T := TX5) (N := 11) (ci := 5) hx hb hts in_X5 tyX5 tyX5_ok nmX5 hown hK hw rfl (by decide) 10 (by decide) q323 rfl rfl rfl eh39 dX5_next_224 (fun H locs hw => ?_)
                  refine lv_aload_n hx hb dX5_next_227 rfl (lv_at hl 0 rfl) ?_
                  refine lv_dup hx hb dX5_next_228 rfl ?_
                  obtain ⟨v40, ev40, ho26⟩ := ob_s ho26
                  refine ep_get (C := RX5) (T := TX5) (N := 11) (ci := 5) hx hb hts in_X5 hown hK hw rfl 8 (by decide) q321 (gI_f ev40) dX5_next_229 ?_
                  refine lv_iconst (v := iI 1) hx hb dX5_next_232 rfl ?_
                  refine lv_iadd hx hb dX5_next_233 ?_
                  obtain ⟨h41, eh41, ho26⟩ := ob_s ho26
                  refine ep_put (C := RX5) (T := TX5) (N := 11) (ci := 5) hx hb hts in_X5 tyX5 tyX5_ok nmX5 hown hK hw rfl (by decide) 8 (by decide) q321 rfl rfl rfl eh41 dX5_next_234 (fun H locs hw => ?_)
                  refine lv_goto (tgt := 163) hx hb dX5_next_237 (by decide) ?_
                  exact ih26 _ ho26 _ _ _ hw (lv_sub hl [0] rfl)
                refine lv_icmp_ge (tgt := 220) hx hb dX5_next_195 (by decide) (fun c34 => ?_) (fun c34 => ?_)
                · have ho33 := oi_t ho33 c34
                  refine lv_aload_n hx hb dX5_next_220 rfl (lv_at hl 0 rfl) ?_
                  obtain ⟨v35, ev35, ho33⟩ := ob_s ho33
                  refine ep_get (C := RX5) (T := TX5) (N := 11) (ci := 5) hx hb hts in_X5 hown hK hw rfl 10 (by decide) q323 (gI_f ev35) dX5_next_221 ?_
                  obtain rfl := Option.some.inj ho33
                  exact hJ33 _ _ _ hw (lv_sub hl [0] rfl)
                · have ho33 := oi_f ho33 c34
                  refine lv_bipush (v := iI 10) hx hb dX5_next_198 (by decide) ?_
                  refine lv_aload_n hx hb dX5_next_200 rfl (lv_at hl 0 rfl) ?_
                  obtain ⟨v36, ev36, ho33⟩ := ob_s ho33
                  refine ep_get (C := RX5) (T := TX5) (N := 11) (ci := 5) hx hb hts in_X5 hown hK hw rfl 10 (by decide) q323 (gI_f ev36) dX5_next_201 ?_
                  refine lv_imul hx hb dX5_next_204 ?_
                  refine lv_aload_n hx hb dX5_next_205 rfl (lv_at hl 0 rfl) ?_
                  refine lv_aload_n hx hb dX5_next_206 rfl (lv_at hl 0 rfl) ?_
                  obtain ⟨v37, ev37, ho33⟩ := ob_s ho33
                  refine ep_get (C := RX5) (T := TX5) (N := 11) (ci := 5) hx hb hts in_X5 hown hK hw rfl 8 (by decide) q321 (gI_f ev37) dX5_next_207 ?_
                  obtain ⟨v38, ev38, ho33⟩ := ob_s ho33
                  refine ep_calli0 (va_runV (As := [.int v37]) (rest := [.int ((iI 10) * v36), .ref a0]) ⟨hx, hb, hml, hown, hts⟩ (metX5_at l G h a0 v37 ev38) (cwV 1 hts (lw_V q206 q208 qs1 q91 q209) rfl rfl rfl hdX5_at ⟨Nat.le_of_ble_eq_true rfl, Nat.le_of_ble_eq_true rfl⟩) (ep_preV hK hZ hw rfl (ckX5_at ev38)) rfl rfl hl.1 rfl (lv_room (Nat.le_of_ble_eq_true rfl)) dX5_next_210 ⟨Nat.le_of_ble_eq_true rfl, Nat.le_of_ble_eq_true rfl⟩) hw (fun H locs hw => ?_)
                  refine lv_iadd hx hb dX5_next_213 ?_
                  refine lv_bipush (v := iI 48) hx hb dX5_next_214 (by decide) ?_
                  refine lv_isub hx hb dX5_next_216 ?_
                  refine lv_goto (tgt := 224) hx hb dX5_next_217 (by decide) ?_
                  obtain rfl := Option.some.inj ho33
                  exact hJ33 _ _ _ hw (lv_sub hl [0] rfl)
          exact hL26 FUEL _ ho26 _ _ _ hw (lv_sub hl [1] rfl)
      · have hf := oi_f hf c16
        obtain ⟨o48, ho48, hf⟩ := ob_s hf
        have hJ48 : ∀ (H : Heap) (locs : List Loc) (ls : Array Slot), ep_W G ep_cl o48 s H locs → lv_has ls 2 [(0, .ref a0)] → wX5_next p l e s m below meth c G h a0 res 0 0 H locs (F0 m 128 ls []) := by
          intro H locs ls hw hl
          refine lv_aload_n hx hb dX5_next_128 rfl (lv_at hl 0 rfl) ?_
          refine lv_iconst (v := iI 1) hx hb dX5_next_129 rfl ?_
          obtain ⟨h55, eh55, hf⟩ := ob_s hf
          refine ep_put (C := RX5) (T := TX5) (N := 11) (ci := 5) hx hb hts in_X5 tyX5 tyX5_ok nmX5 hown hK hw rfl (by decide) 9 (by decide) q322 rfl rfl rfl eh55 dX5_next_130 (fun H locs hw => ?_)
          refine lv_goto (tgt := 292) hx hb dX5_next_133 (by decide) ?_
          exact ep_retvW hx hb hr hlocks hw (sm_r hf) dX5_next_292
        have hL48 : ∀ (fu : Nat) (h : Hp), fX5_next_L94 a0 fu h = some o48 → ∀ (H : Heap) (locs : List Loc) (ls : Array Slot), ep_W G ep_cl h s H locs → lv_has ls 2 [(0, .ref a0)] → wX5_next p l e s m below meth c G h a0 res 0 0 H locs (F0 m 94 ls []) := by
          intro fu
          induction fu with
          | zero => intro h ho48; cases ho48
          | succ fu ih48 =>
            intro h ho48 H locs ls hw hl
            rw [fX5_next_L94] at ho48
            refine lv_aload_n hx hb dX5_next_94 rfl (lv_at hl 0 rfl) ?_
            refine lv_aload_n hx hb dX5_next_95 rfl (lv_at hl 0 rfl) ?_
            obtain ⟨v49, ev49, ho48⟩ := ob_s ho48
            refine ep_get (C := RX5) (T := TX5) (N := 11) (ci := 5) hx hb hts in_X5 hown hK hw rfl 8 (by decide) q321 (gI_f ev49) dX5_next_96 ?_
            obtain ⟨v50, ev50, ho48⟩ := ob_s ho48
            refine ep_calli0 (va_runV (As := [.int v49]) (rest := []) ⟨hx, hb, hml, hown, hts⟩ (metX5_at l G h a0 v49 ev50) (cwV 1 hts (lw_V q206 q208 qs1 q91 q209) rfl rfl rfl hdX5_at ⟨Nat.le_of_ble_eq_true rfl, Nat.le_of_ble_eq_true rfl⟩) (ep_preV hK hZ hw rfl (ckX5_at ev50)) rfl rfl hl.1 rfl (lv_room (Nat.le_of_ble_eq_true rfl)) dX5_next_99 ⟨Nat.le_of_ble_eq_true rfl, Nat.le_of_ble_eq_true rfl⟩) hw (fun H locs hw => ?_)
            refine lv_i2l (v := v50.toInt64) hx hb dX5_next_102 rfl ?_
            refine lv_ldc2 (v := (97 : Int64)) hx hb hown (hts _ q210) dX5_next_103 ?_
            refine lv_ldc2 (v := (122 : Int64)) hx hb hown (hts _ q211) dX5_next_106 ?_
            obtain ⟨v51, ev51, ho48⟩ := ob_s ho48
            refine ep_calli0 (va_runSN (As := [.long v50.toInt64, .long (97 : Int64), .long (122 : Int64)]) (rest := []) ⟨hx, hb, hml, hown, hts⟩ (metX0_isIn l G h v50.toInt64 (97 : Int64) (122 : Int64) ev51) ⟨va_cnB 3 hts (lw_meth q116) rfl rfl rfl (hK.nest q212 rfl) (hts _ q85) hsX0_isIn ⟨Nat.le_of_ble_eq_true rfl, Nat.le_of_ble_eq_true rfl⟩, hts _ q115, trivial⟩ (ep_preS hK hZ hw) rfl rfl hl.1 rfl (lv_room (Nat.le_of_ble_eq_true rfl)) dX5_next_109 ⟨Nat.le_of_ble_eq_true rfl, Nat.le_of_ble_eq_true rfl⟩) hw (fun H locs hw => ?_)
            refine lv_if_eq (tgt := 128) hx hb dX5_next_112 (by decide) (fun c52 => ?_) (fun c52 => ?_)
            · have ho48 := oi_t ho48 c52
              obtain rfl := Option.some.inj ho48
              exact hJ48 _ _ _ hw (lv_sub hl [0] rfl)
            · have ho48 := oi_f ho48 c52
              refine lv_aload_n hx hb dX5_next_115 rfl (lv_at hl 0 rfl) ?_
              refine lv_dup hx hb dX5_next_116 rfl ?_
              obtain ⟨v53, ev53, ho48⟩ := ob_s ho48
              refine ep_get (C := RX5) (T := TX5) (N := 11) (ci := 5) hx hb hts in_X5 hown hK hw rfl 8 (by decide) q321 (gI_f ev53) dX5_next_117 ?_
              refine lv_iconst (v := iI 1) hx hb dX5_next_120 rfl ?_
              refine lv_iadd hx hb dX5_next_121 ?_
              obtain ⟨h54, eh54, ho48⟩ := ob_s ho48
              refine ep_put (C := RX5) (T := TX5) (N := 11) (ci := 5) hx hb hts in_X5 tyX5 tyX5_ok nmX5 hown hK hw rfl (by decide) 8 (by decide) q321 rfl rfl rfl eh54 dX5_next_122 (fun H locs hw => ?_)
              refine lv_goto (tgt := 94) hx hb dX5_next_125 (by decide) ?_
              exact ih48 _ ho48 _ _ _ hw (lv_sub hl [0] rfl)
        exact hL48 FUEL _ ho48 _ _ _ hw (lv_sub hl [1] rfl)
    · have hf := oi_t hf c14
      refine lv_aload_n hx hb dX5_next_64 rfl (lv_at hl 1 rfl) ?_
      refine lv_aload_n hx hb dX5_next_65 rfl (lv_at hl 1 rfl) ?_
      obtain ⟨v56, ev56, hf⟩ := ob_s hf
      refine ep_get (C := RX5) (T := TX5) (N := 11) (ci := 5) hx hb hts in_X5 hown hK hw rfl 7 (by decide) q320 (gI_f ev56) dX5_next_66 ?_
      obtain ⟨h57, eh57, hf⟩ := ob_s hf
      refine ep_put (C := RX5) (T := TX5) (N := 11) (ci := 5) hx hb hts in_X5 tyX5 tyX5_ok nmX5 hown hK hw rfl (by decide) 8 (by decide) q321 rfl rfl rfl eh57 dX5_next_69 (fun H locs hw => ?_)
      refine lv_aload_n hx hb dX5_next_72 rfl (lv_at hl 1 rfl) ?_
      refine lv_iconst (v := iI 0) hx hb dX5_next_73 rfl ?_
      obtain ⟨h58, eh58, hf⟩ := ob_s hf
      refine ep_put (C := RX5) (T := TX5) (N := 11) (ci := 5) hx hb hts in_X5 tyX5 tyX5_ok nmX5 hown hK hw rfl (by decide) 9 (by decide) q322 rfl rfl rfl eh58 dX5_next_74 (fun H locs hw => ?_)
      refine lv_goto (tgt := 292) hx hb dX5_next_77 (by decide) ?_
      exact ep_retvW hx hb hr hlocks hw (sm_r hf) dX5_next_292
  have hL3 : ∀ (fu : Nat) (h : Hp), fX5_next_L8 a0 fu h = some o3 → ∀ (H : Heap) (locs : List Loc) (ls : Array Slot), ep_W G ep_cl h s H locs → lv_has ls 2 [(0, .ref a0)] → wX5_next p l e s m below meth c G h a0 res 0 0 H locs (F0 m 8 ls []) := by
    intro fu
    induction fu with
    | zero => intro h ho3; cases ho3
    | succ fu ih3 =>
      intro h ho3 H locs ls hw hl
      rw [fX5_next_L8] at ho3
      refine lv_aload_n hx hb dX5_next_8 rfl (lv_at hl 0 rfl) ?_
      refine lv_aload_n hx hb dX5_next_9 rfl (lv_at hl 0 rfl) ?_
      obtain ⟨v4, ev4, ho3⟩ := ob_s ho3
      refine ep_get (C := RX5) (T := TX5) (N := 11) (ci := 5) hx hb hts in_X5 hown hK hw rfl 7 (by decide) q320 (gI_f ev4) dX5_next_10 ?_
      obtain ⟨v5, ev5, ho3⟩ := ob_s ho3
      refine ep_calli0 (va_runV (As := [.int v4]) (rest := []) ⟨hx, hb, hml, hown, hts⟩ (metX5_at l G h a0 v4 ev5) (cwV 1 hts (lw_V q206 q208 qs1 q91 q209) rfl rfl rfl hdX5_at ⟨Nat.le_of_ble_eq_true rfl, Nat.le_of_ble_eq_true rfl⟩) (ep_preV hK hZ hw rfl (ckX5_at ev5)) rfl rfl hl.1 rfl (lv_room (Nat.le_of_ble_eq_true rfl)) dX5_next_13 ⟨Nat.le_of_ble_eq_true rfl, Nat.le_of_ble_eq_true rfl⟩) hw (fun H locs hw => ?_)
      refine lv_bipush (v := iI 32) hx hb dX5_next_16 (by decide) ?_
      refine lv_icmp_ne (tgt := 34) hx hb dX5_next_18 (by decide) (fun c6 => ?_) (fun c6 => ?_)
      · have ho3 := oi_f ho3 c6
        obtain rfl := Option.some.inj ho3
        exact hJ3 _ _ _ hw (lv_sub hl [0] rfl)
      · have ho3 := oi_t ho3 c6
        refine lv_aload_n hx hb dX5_next_21 rfl (lv_at hl 0 rfl) ?_
        refine lv_dup hx hb dX5_next_22 rfl ?_
        obtain ⟨v7, ev7, ho3⟩ := ob_s ho3
        refine ep_get (C := RX5) (T := TX5) (N := 11) (ci := 5) hx hb hts in_X5 hown hK hw rfl 7 (by decide) q320 (gI_f ev7) dX5_next_23 ?_
        refine lv_iconst (v := iI 1) hx hb dX5_next_26 rfl ?_
        refine lv_iadd hx hb dX5_next_27 ?_
        obtain ⟨h8, eh8, ho3⟩ := ob_s ho3
        refine ep_put (C := RX5) (T := TX5) (N := 11) (ci := 5) hx hb hts in_X5 tyX5 tyX5_ok nmX5 hown hK hw rfl (by decide) 7 (by decide) q320 rfl rfl rfl eh8 dX5_next_28 (fun H locs hw => ?_)
        refine lv_goto (tgt := 8) hx hb dX5_next_31 (by decide) ?_
        exact ih3 _ ho3 _ _ _ hw (lv_sub hl [0] rfl)
  exact hL3 FUEL _ ho3 _ _ _ hw (lv_sub hl [0] rfl)
abbrev wTX5_next (p : Program) (l : Launch) (e : Env) (s : State) (m : MethodId) (below : List Frame) (meth : Method) (c : Code) (G : EG) (h : Hp) (a0 : Nat) (res : Thr) (k9 n9 : Nat) (H : Heap) (locs : List Loc) (g : JFrame) : Prop := W p l e (headSpec (ws_ yX5_next cX5_next 2 none) ({ frames := 6, cells := 1, slots := 8, locals := 136 } : Room)).room s m ([.ref a0] : List Value).toArray below meth c H locs k9 n9 (MQT below (ep_Qt G ep_cl res) ([.ref a0] : List Value).toArray s 1 8 (ep_A G)) g
set_option maxHeartbeats 4000000 in
theorem metTX5_next (l : Launch) (G : EG) (h : Hp) (a0 : Nat) {res : Thr} (hf : fX5_next h a0 = some (.inl res)) : MetT l yX5_next (ws_ yX5_next cX5_next 2 none) ({ frames := 6, cells := 1, slots := 8, locals := 136 } : Room) (ep_Pc G ep_cl h [.ref a0]) (ep_Qt G ep_cl res) 1 8 (ep_A G) := by
  refine MetT.ofW (cc := cX5_next) (maxL := 2) (ret := none) (by decide) rfl ?_
  intro p e s m args below meth c s₁ B hml hv
  obtain ⟨rfl, hR, hK, hZ⟩ := hv
  have hx := B.exec
  have hb := B.bytes
  have hr := B.returns
  have hlocks := B.notSynchronized
  have hts := atoms_spec (ws := (ws_ yX5_next cX5_next 2 none)) B.pre
  have hno : c.exceptionTable.toList = [] := by
    have h := B.noHandlers (hts _ List.mem_cons_self)
    simpa using h
  have hts : ∀ w ∈ lw_all, w.before _ s = true := fun w h => hts w (List.mem_cons_of_mem _ h)
  have hown : s.vm.findClass RX5 = some m.cls := findClass_of_methodNamed B.named
  have hw : ep_W G ep_cl h s s.heap [] := ⟨hR, va_S.rf⟩
  have hl := lv_entry ([.ref a0]) (n := 2) (Nat.le_of_ble_eq_true rfl)
  rw [lg_entry_eq]
  generalize (lg_sl ([.ref a0]) ++ List.replicate (2 - (lg_sl ([.ref a0])).length) Slot.unset).toArray = ls at hl ⊢
  have hl : lv_has ls 2 [(0, .ref a0)] := hl
  unfold fX5_next at hf
  have hf := (oi_c hf).2
  show wTX5_next p l e s m below meth c G h a0 res 0 0 s.heap ([]) (F0 m 0 ls [])
  refine lv_aload_n hx hb dX5_next_0 rfl (lv_at hl 0 rfl) ?_
  refine lv_aload_n hx hb dX5_next_1 rfl (lv_at hl 0 rfl) ?_
  obtain ⟨v1, ev1, hf⟩ := ob_s hf
  refine ep_get (C := RX5) (T := TX5) (N := 11) (ci := 5) hx hb hts in_X5 hown hK hw rfl 8 (by decide) q321 (gI_f ev1) dX5_next_2 ?_
  obtain ⟨h2, eh2, hf⟩ := ob_s hf
  refine ep_put (C := RX5) (T := TX5) (N := 11) (ci := 5) hx hb hts in_X5 tyX5 tyX5_ok nmX5 hown hK hw rfl (by decide) 7 (by decide) q320 rfl rfl rfl eh2 dX5_next_5 (fun H locs hw => ?_)
  obtain ⟨o3, ho3, hf⟩ := ob_s hf
  have hJ3 : ∀ (H : Heap) (locs : List Loc) (ls : Array Slot), ep_W G ep_cl o3 s H locs → lv_has ls 2 [(0, .ref a0)] → wTX5_next p l e s m below meth c G h a0 res 0 0 H locs (F0 m 34 ls []) := by
    intro H locs ls hw hl
    refine lv_aload_n hx hb dX5_next_34 rfl (lv_at hl 0 rfl) ?_
    refine lv_aload_n hx hb dX5_next_35 rfl (lv_at hl 0 rfl) ?_
    obtain ⟨v9, ev9, hf⟩ := ob_s hf
    refine ep_get (C := RX5) (T := TX5) (N := 11) (ci := 5) hx hb hts in_X5 hown hK hw rfl 7 (by decide) q320 (gI_f ev9) dX5_next_36 ?_
    obtain ⟨v10, ev10, hf⟩ := ob_s hf
    refine ep_calli0 (va_runV (As := [.int v9]) (rest := []) ⟨hx, hb, hml, hown, hts⟩ (metX5_at l G o3 a0 v9 ev10) (cwV 1 hts (lw_V q206 q208 qs1 q91 q209) rfl rfl rfl hdX5_at ⟨Nat.le_of_ble_eq_true rfl, Nat.le_of_ble_eq_true rfl⟩) (ep_preV hK hZ hw rfl (ckX5_at ev10)) rfl rfl hl.1 rfl (lv_room (Nat.le_of_ble_eq_true rfl)) dX5_next_39 ⟨Nat.le_of_ble_eq_true rfl, Nat.le_of_ble_eq_true rfl⟩) hw (fun H locs hw => ?_)
    refine lv_istore_n (lv' := [(1, .int v10), (0, .ref a0)]) hx hb dX5_next_42 rfl hl (by decide) rfl (fun ls hl => ?_)
    refine lv_aload_n hx hb dX5_next_43 rfl (lv_at hl 1 rfl) ?_
    refine lv_aload_n hx hb dX5_next_44 rfl (lv_at hl 1 rfl) ?_
    obtain ⟨v11, ev11, hf⟩ := ob_s hf
    refine ep_get (C := RX5) (T := TX5) (N := 11) (ci := 5) hx hb hts in_X5 hown hK hw rfl 7 (by decide) q320 (gI_f ev11) dX5_next_45 ?_
    refine lv_iconst (v := iI 1) hx hb dX5_next_48 rfl ?_
    refine lv_iadd hx hb dX5_next_49 ?_
    obtain ⟨h12, eh12, hf⟩ := ob_s hf
    refine ep_put (C := RX5) (T := TX5) (N := 11) (ci := 5) hx hb hts in_X5 tyX5 tyX5_ok nmX5 hown hK hw rfl (by decide) 8 (by decide) q321 rfl rfl rfl eh12 dX5_next_50 (fun H locs hw => ?_)
    refine lv_aload_n hx hb dX5_next_53 rfl (lv_at hl 1 rfl) ?_
    refine lv_iload_n hx hb dX5_next_54 rfl (lv_at hl 0 rfl) ?_
    obtain ⟨h13, eh13, hf⟩ := ob_s hf
    refine ep_put (C := RX5) (T := TX5) (N := 11) (ci := 5) hx hb hts in_X5 tyX5 tyX5_ok nmX5 hown hK hw rfl (by decide) 10 (by decide) q323 rfl rfl rfl eh13 dX5_next_55 (fun H locs hw => ?_)
    refine lv_iload_n hx hb dX5_next_58 rfl (lv_at hl 0 rfl) ?_
    refine lv_bipush (v := iI (-4)) hx hb dX5_next_59 (by decide) ?_
    refine lv_icmp_ne (tgt := 80) hx hb dX5_next_61 (by decide) (fun c14 => ?_) (fun c14 => ?_)
    · have hf := oi_f hf c14
      refine lv_iload_n hx hb dX5_next_80 rfl (lv_at hl 0 rfl) ?_
      refine lv_i2l (v := v10.toInt64) hx hb dX5_next_81 rfl ?_
      refine lv_ldc2 (v := (97 : Int64)) hx hb hown (hts _ q210) dX5_next_82 ?_
      refine lv_ldc2 (v := (122 : Int64)) hx hb hown (hts _ q211) dX5_next_85 ?_
      obtain ⟨v15, ev15, hf⟩ := ob_s hf
      refine ep_calli0 (va_runSN (As := [.long v10.toInt64, .long (97 : Int64), .long (122 : Int64)]) (rest := []) ⟨hx, hb, hml, hown, hts⟩ (metX0_isIn l G h13 v10.toInt64 (97 : Int64) (122 : Int64) ev15) ⟨va_cnB 3 hts (lw_meth q116) rfl rfl rfl (hK.nest q212 rfl) (hts _ q85) hsX0_isIn ⟨Nat.le_of_ble_eq_true rfl, Nat.le_of_ble_eq_true rfl⟩, hts _ q115, trivial⟩ (ep_preS hK hZ hw) rfl rfl hl.1 rfl (lv_room (Nat.le_of_ble_eq_true rfl)) dX5_next_88 ⟨Nat.le_of_ble_eq_true rfl, Nat.le_of_ble_eq_true rfl⟩) hw (fun H locs hw => ?_)
      refine lv_if_eq (tgt := 136) hx hb dX5_next_91 (by decide) (fun c16 => ?_) (fun c16 => ?_)
      · have hf := oi_t hf c16
        refine lv_iload_n hx hb dX5_next_136 rfl (lv_at hl 0 rfl) ?_
        refine lv_i2l (v := v10.toInt64) hx hb dX5_next_137 rfl ?_
        refine lv_ldc2 (v := (48 : Int64)) hx hb hown (hts _ q213) dX5_next_138 ?_
        refine lv_ldc2 (v := (57 : Int64)) hx hb hown (hts _ q214) dX5_next_141 ?_
        obtain ⟨v17, ev17, hf⟩ := ob_s hf
        refine ep_calli0 (va_runSN (As := [.long v10.toInt64, .long (48 : Int64), .long (57 : Int64)]) (rest := []) ⟨hx, hb, hml, hown, hts⟩ (metX0_isIn l G h13 v10.toInt64 (48 : Int64) (57 : Int64) ev17) ⟨va_cnB 3 hts (lw_meth q116) rfl rfl rfl (hK.nest q212 rfl) (hts _ q85) hsX0_isIn ⟨Nat.le_of_ble_eq_true rfl, Nat.le_of_ble_eq_true rfl⟩, hts _ q115, trivial⟩ (ep_preS hK hZ hw) rfl rfl hl.1 rfl (lv_room (Nat.le_of_ble_eq_true rfl)) dX5_next_144 ⟨Nat.le_of_ble_eq_true rfl, Nat.le_of_ble_eq_true rfl⟩) hw (fun H locs hw => ?_)
        refine lv_if_eq (tgt := 271) hx hb dX5_next_147 (by decide) (fun c18 => ?_) (fun c18 => ?_)
        · have hf := oi_t hf c18
          refine lv_aload_n hx hb dX5_next_271 rfl (lv_at hl 1 rfl) ?_
          refine lv_iload_n hx hb dX5_next_272 rfl (lv_at hl 0 rfl) ?_
          refine lv_bipush (v := iI 59) hx hb dX5_next_273 (by decide) ?_
          have hJ19 : wTX5_next p l e s m below meth c G h a0 res 0 0 H locs (F0 m 283 ls [.int (if v10 = (iI 59) then iI 1 else iI 0), .ref a0]) := by
            refine lv_iconst (v := iI 1) hx hb dX5_next_283 rfl ?_
            obtain ⟨zo21, eo21, hko21⟩ := orL_s hf
            rcases zo21 with xo21 | o21
            · have hf := orL_1 hko21 rfl
              exact ep_outT' hno hlocks (ep_runVT (As := [.int (if v10 = (iI 59) then iI 1 else iI 0), .int (iI 1)]) (rest := []) ⟨hx, hb, hml, hown, hts⟩ (metTX5_must l G h13 a0 (if v10 = (iI 59) then iI 1 else iI 0) (iI 1) eo21) (cwV 2 hts (lw_V q215 q217 qs2 q91 q218) rfl rfl rfl hdX5_must ⟨Nat.le_of_ble_eq_true rfl, Nat.le_of_ble_eq_true rfl⟩) (ep_preV hK hZ hw rfl (ckX5_must eo21)) rfl rfl hl.1 rfl (lv_room (Nat.le_of_ble_eq_true rfl)) dX5_next_284 ⟨Nat.le_of_ble_eq_true rfl, Nat.le_of_ble_eq_true rfl⟩) hw hf
            have hf := orL_2 hko21 rfl
            refine ep_callv0 (va_runV (As := [.int (if v10 = (iI 59) then iI 1 else iI 0), .int (iI 1)]) (rest := []) ⟨hx, hb, hml, hown, hts⟩ (metX5_must l G h13 a0 (if v10 = (iI 59) then iI 1 else iI 0) (iI 1) eo21) (cwV 2 hts (lw_V q215 q217 qs2 q91 q218) rfl rfl rfl hdX5_must ⟨Nat.le_of_ble_eq_true rfl, Nat.le_of_ble_eq_true rfl⟩) (ep_preV hK hZ hw rfl (ckX5_must eo21)) rfl rfl hl.1 rfl (lv_room (Nat.le_of_ble_eq_true rfl)) dX5_next_284 ⟨Nat.le_of_ble_eq_true rfl, Nat.le_of_ble_eq_true rfl⟩) hw (fun H locs hw => ?_)
            refine lv_aload_n hx hb dX5_next_287 rfl (lv_at hl 1 rfl) ?_
            refine lv_iconst (v := iI 3) hx hb dX5_next_288 rfl ?_
            obtain ⟨h22, eh22, hf⟩ := ob_s hf
            refine ep_put (C := RX5) (T := TX5) (N := 11) (ci := 5) hx hb hts in_X5 tyX5 tyX5_ok nmX5 hown hK hw rfl (by decide) 9 (by decide) q322 rfl rfl rfl eh22 dX5_next_289 (fun H locs hw => ?_)
            cases hf
          refine lv_icmp_ne (tgt := 282) hx hb dX5_next_275 (by decide) (fun c20 => ?_) (fun c20 => ?_)
          · refine lv_iconst (v := iI 0) hx hb dX5_next_282 rfl ?_
            rw [if_neg c20] at hJ19
            exact hJ19
          · refine lv_iconst (v := iI 1) hx hb dX5_next_278 rfl ?_
            refine lv_goto (tgt := 283) hx hb dX5_next_279 (by decide) ?_
            rw [if_pos c20] at hJ19
            exact hJ19
        · have hf := oi_f hf c18
          refine lv_aload_n hx hb dX5_next_150 rfl (lv_at hl 1 rfl) ?_
          refine lv_aload_n hx hb dX5_next_151 rfl (lv_at hl 1 rfl) ?_
          obtain ⟨v23, ev23, hf⟩ := ob_s hf
          refine ep_get (C := RX5) (T := TX5) (N := 11) (ci := 5) hx hb hts in_X5 hown hK hw rfl 7 (by decide) q320 (gI_f ev23) dX5_next_152 ?_
          obtain ⟨h24, eh24, hf⟩ := ob_s hf
          refine ep_put (C := RX5) (T := TX5) (N := 11) (ci := 5) hx hb hts in_X5 tyX5 tyX5_ok nmX5 hown hK hw rfl (by decide) 8 (by decide) q321 rfl rfl rfl eh24 dX5_next_155 (fun H locs hw => ?_)
          refine lv_aload_n hx hb dX5_next_158 rfl (lv_at hl 1 rfl) ?_
          refine lv_iconst (v := iI 0) hx hb dX5_next_159 rfl ?_
          obtain ⟨h25, eh25, hf⟩ := ob_s hf
          refine ep_put (C := RX5) (T := TX5) (N := 11) (ci := 5) hx hb hts in_X5 tyX5 tyX5_ok nmX5 hown hK hw rfl (by decide) 10 (by decide) q323 rfl rfl rfl eh25 dX5_next_160 (fun H locs hw => ?_)
          obtain ⟨o26, ho26, hf⟩ := ob_s hf
          have hJ26 : ∀ (H : Heap) (locs : List Loc) (ls : Array Slot), ep_W G ep_cl o26 s H locs → lv_has ls 2 [(0, .ref a0)] → wTX5_next p l e s m below meth c G h a0 res 0 0 H locs (F0 m 240 ls []) := by
            intro H locs ls hw hl
            refine lv_aload_n hx hb dX5_next_240 rfl (lv_at hl 0 rfl) ?_
            refine lv_aload_n hx hb dX5_next_241 rfl (lv_at hl 0 rfl) ?_
            obtain ⟨v42, ev42, hf⟩ := ob_s hf
            refine ep_get (C := RX5) (T := TX5) (N := 11) (ci := 5) hx hb hts in_X5 hown hK hw rfl 8 (by decide) q321 (gI_f ev42) dX5_next_242 ?_
            refine lv_aload_n hx hb dX5_next_245 rfl (lv_at hl 0 rfl) ?_
            obtain ⟨v43, ev43, hf⟩ := ob_s hf
            refine ep_get (C := RX5) (T := TX5) (N := 11) (ci := 5) hx hb hts in_X5 hown hK hw rfl 7 (by decide) q320 (gI_f ev43) dX5_next_246 ?_
            refine lv_isub hx hb dX5_next_249 ?_
            refine lv_iconst (v := iI 2) hx hb dX5_next_250 rfl ?_
            have hJ44 : wTX5_next p l e s m below meth c G h a0 res 0 0 H locs (F0 m 259 ls [.int (if (iI 2) < (v42 - v43) then iI 0 else iI 1), .ref a0]) := by
              refine lv_iconst (v := iI 1) hx hb dX5_next_259 rfl ?_
              obtain ⟨zo46, eo46, hko46⟩ := orL_s hf
              rcases zo46 with xo46 | o46
              · have hf := orL_1 hko46 rfl
                exact ep_outT' hno hlocks (ep_runVT (As := [.int (if (iI 2) < (v42 - v43) then iI 0 else iI 1), .int (iI 1)]) (rest := []) ⟨hx, hb, hml, hown, hts⟩ (metTX5_must l G o26 a0 (if (iI 2) < (v42 - v43) then iI 0 else iI 1) (iI 1) eo46) (cwV 2 hts (lw_V q215 q217 qs2 q91 q218) rfl rfl rfl hdX5_must ⟨Nat.le_of_ble_eq_true rfl, Nat.le_of_ble_eq_true rfl⟩) (ep_preV hK hZ hw rfl (ckX5_must eo46)) rfl rfl hl.1 rfl (lv_room (Nat.le_of_ble_eq_true rfl)) dX5_next_260 ⟨Nat.le_of_ble_eq_true rfl, Nat.le_of_ble_eq_true rfl⟩) hw hf
              have hf := orL_2 hko46 rfl
              refine ep_callv0 (va_runV (As := [.int (if (iI 2) < (v42 - v43) then iI 0 else iI 1), .int (iI 1)]) (rest := []) ⟨hx, hb, hml, hown, hts⟩ (metX5_must l G o26 a0 (if (iI 2) < (v42 - v43) then iI 0 else iI 1) (iI 1) eo46) (cwV 2 hts (lw_V q215 q217 qs2 q91 q218) rfl rfl rfl hdX5_must ⟨Nat.le_of_ble_eq_true rfl, Nat.le_of_ble_eq_true rfl⟩) (ep_preV hK hZ hw rfl (ckX5_must eo46)) rfl rfl hl.1 rfl (lv_room (Nat.le_of_ble_eq_true rfl)) dX5_next_260 ⟨Nat.le_of_ble_eq_true rfl, Nat.le_of_ble_eq_true rfl⟩) hw (fun H locs hw => ?_)
              refine lv_aload_n hx hb dX5_next_263 rfl (lv_at hl 0 rfl) ?_
              refine lv_iconst (v := iI 2) hx hb dX5_next_264 rfl ?_
              obtain ⟨h47, eh47, hf⟩ := ob_s hf
              refine ep_put (C := RX5) (T := TX5) (N := 11) (ci := 5) hx hb hts in_X5 tyX5 tyX5_ok nmX5 hown hK hw rfl (by decide) 9 (by decide) q322 rfl rfl rfl eh47 dX5_next_265 (fun H locs hw => ?_)
              refine lv_goto (tgt := 292) hx hb dX5_next_268 (by decide) ?_
              cases hf
            refine lv_icmp_gt (tgt := 258) hx hb dX5_next_251 (by decide) (fun c45 => ?_) (fun c45 => ?_)
            · refine lv_iconst (v := iI 0) hx hb dX5_next_258 rfl ?_
              rw [if_pos c45] at hJ44
              exact hJ44
            · refine lv_iconst (v := iI 1) hx hb dX5_next_254 rfl ?_
              refine lv_goto (tgt := 259) hx hb dX5_next_255 (by decide) ?_
              rw [if_neg c45] at hJ44
              exact hJ44
          have hL26 : ∀ (fu : Nat) (h : Hp), fX5_next_L163 a0 fu h = some o26 → ∀ (H : Heap) (locs : List Loc) (ls : Array Slot), ep_W G ep_cl h s H locs → lv_has ls 2 [(0, .ref a0)] → wTX5_next p l e s m below meth c G h a0 res 0 0 H locs (F0 m 163 ls []) := by
            intro fu
            induction fu with
            | zero => intro h ho26; cases ho26
            | succ fu ih26 =>
              intro h ho26 H locs ls hw hl
              rw [fX5_next_L163] at ho26
              refine lv_aload_n hx hb dX5_next_163 rfl (lv_at hl 0 rfl) ?_
              refine lv_aload_n hx hb dX5_next_164 rfl (lv_at hl 0 rfl) ?_
              obtain ⟨v27, ev27, ho26⟩ := ob_s ho26
              refine ep_get (C := RX5) (T := TX5) (N := 11) (ci := 5) hx hb hts in_X5 hown hK hw rfl 8 (by decide) q321 (gI_f ev27) dX5_next_165 ?_
              obtain ⟨v28, ev28, ho26⟩ := ob_s ho26
              refine ep_calli0 (va_runV (As := [.int v27]) (rest := []) ⟨hx, hb, hml, hown, hts⟩ (metX5_at l G h a0 v27 ev28) (cwV 1 hts (lw_V q206 q208 qs1 q91 q209) rfl rfl rfl hdX5_at ⟨Nat.le_of_ble_eq_true rfl, Nat.le_of_ble_eq_true rfl⟩) (ep_preV hK hZ hw rfl (ckX5_at ev28)) rfl rfl hl.1 rfl (lv_room (Nat.le_of_ble_eq_true rfl)) dX5_next_168 ⟨Nat.le_of_ble_eq_true rfl, Nat.le_of_ble_eq_true rfl⟩) hw (fun H locs hw => ?_)
              refine lv_i2l (v := v28.toInt64) hx hb dX5_next_171 rfl ?_
              refine lv_ldc2 (v := (48 : Int64)) hx hb hown (hts _ q213) dX5_next_172 ?_
              refine lv_ldc2 (v := (57 : Int64)) hx hb hown (hts _ q214) dX5_next_175 ?_
              obtain ⟨v29, ev29, ho26⟩ := ob_s ho26
              refine ep_calli0 (va_runSN (As := [.long v28.toInt64, .long (48 : Int64), .long (57 : Int64)]) (rest := []) ⟨hx, hb, hml, hown, hts⟩ (metX0_isIn l G h v28.toInt64 (48 : Int64) (57 : Int64) ev29) ⟨va_cnB 3 hts (lw_meth q116) rfl rfl rfl (hK.nest q212 rfl) (hts _ q85) hsX0_isIn ⟨Nat.le_of_ble_eq_true rfl, Nat.le_of_ble_eq_true rfl⟩, hts _ q115, trivial⟩ (ep_preS hK hZ hw) rfl rfl hl.1 rfl (lv_room (Nat.le_of_ble_eq_true rfl)) dX5_next_178 ⟨Nat.le_of_ble_eq_true rfl, Nat.le_of_ble_eq_true rfl⟩) hw (fun H locs hw => ?_)
              refine lv_if_eq (tgt := 240) hx hb dX5_next_181 (by decide) (fun c30 => ?_) (fun c30 => ?_)
              · have ho26 := oi_t ho26 c30
                obtain rfl := Option.some.inj ho26
                exact hJ26 _ _ _ hw (lv_sub hl [0] rfl)
              · have ho26 := oi_f ho26 c30
                refine lv_aload_n hx hb dX5_next_184 rfl (lv_at hl 0 rfl) ?_
                refine lv_aload_n hx hb dX5_next_185 rfl (lv_at hl 0 rfl) ?_
                obtain ⟨v31, ev31, ho26⟩ := ob_s ho26
                refine ep_get (C := RX5) (T := TX5) (N := 11) (ci := 5) hx hb hts in_X5 hown hK hw rfl 8 (by decide) q321 (gI_f ev31) dX5_next_186 ?_
                refine lv_aload_n hx hb dX5_next_189 rfl (lv_at hl 0 rfl) ?_
                obtain ⟨v32, ev32, ho26⟩ := ob_s ho26
                refine ep_get (C := RX5) (T := TX5) (N := 11) (ci := 5) hx hb hts in_X5 hown hK hw rfl 7 (by decide) q320 (gI_f ev32) dX5_next_190 ?_
                refine lv_isub hx hb dX5_next_193 ?_
                refine lv_iconst (v := iI 2) hx hb dX5_next_194 rfl ?_
                obtain ⟨o33, ho33, ho26⟩ := ob_s ho26
                have hJ33 : ∀ (H : Heap) (locs : List Loc) (ls : Array Slot), ep_W G ep_cl h s H locs → lv_has ls 2 [(0, .ref a0)] → wTX5_next p l e s m below meth c G h a0 res 0 0 H locs (F0 m 224 ls [.int o33, .ref a0]) := by
                  intro H locs ls hw hl
                  obtain ⟨h39, eh39, ho26⟩ := ob_s ho26
                  refine ep_put (C := RX5) (T := TX5) (N := 11) (ci := 5) hx hb hts in_X5 tyX5 tyX5_ok nmX5 hown hK hw rfl (by decide) 10 (by decide) q323 rfl rfl rfl eh39 dX5_next_224 (fun H locs hw => ?_)
                  refine lv_aload_n hx hb dX5_next_227 rfl (lv_at hl 0 rfl) ?_
                  refine lv_dup hx hb dX5_next_228 rfl ?_
                  obtain ⟨v40, ev40, ho26⟩ := ob_s ho26
                  refine ep_get (C := RX5) (T := TX5) (N := 11) (ci := 5) hx hb hts in_X5 hown hK hw rfl 8 (by decide) q321 (gI_f ev40) dX5_next_229 ?_
                  refine lv_iconst (v := iI 1) hx hb dX5_next_232 rfl ?_
                  refine lv_iadd hx hb dX5_next_233 ?_
                  obtain ⟨h41, eh41, ho26⟩ := ob_s ho26
                  refine ep_put (C := RX5) (T := TX5) (N := 11) (ci := 5) hx hb hts in_X5 tyX5 tyX5_ok nmX5 hown hK hw rfl (by decide) 8 (by decide) q321 rfl rfl rfl eh41 dX5_next_234 (fun H locs hw => ?_)
                  refine lv_goto (tgt := 163) hx hb dX5_next_237 (by decide) ?_
                  exact ih26 _ ho26 _ _ _ hw (lv_sub hl [0] rfl)
                refine lv_icmp_ge (tgt := 220) hx hb dX5_next_195 (by decide) (fun c34 => ?_) (fun c34 => ?_)
                · have ho33 := oi_t ho33 c34
                  refine lv_aload_n hx hb dX5_next_220 rfl (lv_at hl 0 rfl) ?_
                  obtain ⟨v35, ev35, ho33⟩ := ob_s ho33
                  refine ep_get (C := RX5) (T := TX5) (N := 11) (ci := 5) hx hb hts in_X5 hown hK hw rfl 10 (by decide) q323 (gI_f ev35) dX5_next_221 ?_
                  obtain rfl := Option.some.inj ho33
                  exact hJ33 _ _ _ hw (lv_sub hl [0] rfl)
                · have ho33 := oi_f ho33 c34
                  refine lv_bipush (v := iI 10) hx hb dX5_next_198 (by decide) ?_
                  refine lv_aload_n hx hb dX5_next_200 rfl (lv_at hl 0 rfl) ?_
                  obtain ⟨v36, ev36, ho33⟩ := ob_s ho33
                  refine ep_get (C := RX5) (T := TX5) (N := 11) (ci := 5) hx hb hts in_X5 hown hK hw rfl 10 (by decide) q323 (gI_f ev36) dX5_next_201 ?_
                  refine lv_imul hx hb dX5_next_204 ?_
                  refine lv_aload_n hx hb dX5_next_205 rfl (lv_at hl 0 rfl) ?_
                  refine lv_aload_n hx hb dX5_next_206 rfl (lv_at hl 0 rfl) ?_
                  obtain ⟨v37, ev37, ho33⟩ := ob_s ho33
                  refine ep_get (C := RX5) (T := TX5) (N := 11) (ci := 5) hx hb hts in_X5 hown hK hw rfl 8 (by decide) q321 (gI_f ev37) dX5_next_207 ?_
                  obtain ⟨v38, ev38, ho33⟩ := ob_s ho33
                  refine ep_calli0 (va_runV (As := [.int v37]) (rest := [.int ((iI 10) * v36), .ref a0]) ⟨hx, hb, hml, hown, hts⟩ (metX5_at l G h a0 v37 ev38) (cwV 1 hts (lw_V q206 q208 qs1 q91 q209) rfl rfl rfl hdX5_at ⟨Nat.le_of_ble_eq_true rfl, Nat.le_of_ble_eq_true rfl⟩) (ep_preV hK hZ hw rfl (ckX5_at ev38)) rfl rfl hl.1 rfl (lv_room (Nat.le_of_ble_eq_true rfl)) dX5_next_210 ⟨Nat.le_of_ble_eq_true rfl, Nat.le_of_ble_eq_true rfl⟩) hw (fun H locs hw => ?_)
                  refine lv_iadd hx hb dX5_next_213 ?_
                  refine lv_bipush (v := iI 48) hx hb dX5_next_214 (by decide) ?_
                  refine lv_isub hx hb dX5_next_216 ?_
                  refine lv_goto (tgt := 224) hx hb dX5_next_217 (by decide) ?_
                  obtain rfl := Option.some.inj ho33
                  exact hJ33 _ _ _ hw (lv_sub hl [0] rfl)
          exact hL26 FUEL _ ho26 _ _ _ hw (lv_sub hl [1] rfl)
      · have hf := oi_f hf c16
        obtain ⟨o48, ho48, hf⟩ := ob_s hf
        have hJ48 : ∀ (H : Heap) (locs : List Loc) (ls : Array Slot), ep_W G ep_cl o48 s H locs → lv_has ls 2 [(0, .ref a0)] → wTX5_next p l e s m below meth c G h a0 res 0 0 H locs (F0 m 128 ls []) := by
          intro H locs ls hw hl
          refine lv_aload_n hx hb dX5_next_128 rfl (lv_at hl 0 rfl) ?_
          refine lv_iconst (v := iI 1) hx hb dX5_next_129 rfl ?_
          obtain ⟨h55, eh55, hf⟩ := ob_s hf
          refine ep_put (C := RX5) (T := TX5) (N := 11) (ci := 5) hx hb hts in_X5 tyX5 tyX5_ok nmX5 hown hK hw rfl (by decide) 9 (by decide) q322 rfl rfl rfl eh55 dX5_next_130 (fun H locs hw => ?_)
          refine lv_goto (tgt := 292) hx hb dX5_next_133 (by decide) ?_
          cases hf
        have hL48 : ∀ (fu : Nat) (h : Hp), fX5_next_L94 a0 fu h = some o48 → ∀ (H : Heap) (locs : List Loc) (ls : Array Slot), ep_W G ep_cl h s H locs → lv_has ls 2 [(0, .ref a0)] → wTX5_next p l e s m below meth c G h a0 res 0 0 H locs (F0 m 94 ls []) := by
          intro fu
          induction fu with
          | zero => intro h ho48; cases ho48
          | succ fu ih48 =>
            intro h ho48 H locs ls hw hl
            rw [fX5_next_L94] at ho48
            refine lv_aload_n hx hb dX5_next_94 rfl (lv_at hl 0 rfl) ?_
            refine lv_aload_n hx hb dX5_next_95 rfl (lv_at hl 0 rfl) ?_
            obtain ⟨v49, ev49, ho48⟩ := ob_s ho48
            refine ep_get (C := RX5) (T := TX5) (N := 11) (ci := 5) hx hb hts in_X5 hown hK hw rfl 8 (by decide) q321 (gI_f ev49) dX5_next_96 ?_
            obtain ⟨v50, ev50, ho48⟩ := ob_s ho48
            refine ep_calli0 (va_runV (As := [.int v49]) (rest := []) ⟨hx, hb, hml, hown, hts⟩ (metX5_at l G h a0 v49 ev50) (cwV 1 hts (lw_V q206 q208 qs1 q91 q209) rfl rfl rfl hdX5_at ⟨Nat.le_of_ble_eq_true rfl, Nat.le_of_ble_eq_true rfl⟩) (ep_preV hK hZ hw rfl (ckX5_at ev50)) rfl rfl hl.1 rfl (lv_room (Nat.le_of_ble_eq_true rfl)) dX5_next_99 ⟨Nat.le_of_ble_eq_true rfl, Nat.le_of_ble_eq_true rfl⟩) hw (fun H locs hw => ?_)
            refine lv_i2l (v := v50.toInt64) hx hb dX5_next_102 rfl ?_
            refine lv_ldc2 (v := (97 : Int64)) hx hb hown (hts _ q210) dX5_next_103 ?_
            refine lv_ldc2 (v := (122 : Int64)) hx hb hown (hts _ q211) dX5_next_106 ?_
            obtain ⟨v51, ev51, ho48⟩ := ob_s ho48
            refine ep_calli0 (va_runSN (As := [.long v50.toInt64, .long (97 : Int64), .long (122 : Int64)]) (rest := []) ⟨hx, hb, hml, hown, hts⟩ (metX0_isIn l G h v50.toInt64 (97 : Int64) (122 : Int64) ev51) ⟨va_cnB 3 hts (lw_meth q116) rfl rfl rfl (hK.nest q212 rfl) (hts _ q85) hsX0_isIn ⟨Nat.le_of_ble_eq_true rfl, Nat.le_of_ble_eq_true rfl⟩, hts _ q115, trivial⟩ (ep_preS hK hZ hw) rfl rfl hl.1 rfl (lv_room (Nat.le_of_ble_eq_true rfl)) dX5_next_109 ⟨Nat.le_of_ble_eq_true rfl, Nat.le_of_ble_eq_true rfl⟩) hw (fun H locs hw => ?_)
            refine lv_if_eq (tgt := 128) hx hb dX5_next_112 (by decide) (fun c52 => ?_) (fun c52 => ?_)
            · have ho48 := oi_t ho48 c52
              obtain rfl := Option.some.inj ho48
              exact hJ48 _ _ _ hw (lv_sub hl [0] rfl)
            · have ho48 := oi_f ho48 c52
              refine lv_aload_n hx hb dX5_next_115 rfl (lv_at hl 0 rfl) ?_
              refine lv_dup hx hb dX5_next_116 rfl ?_
              obtain ⟨v53, ev53, ho48⟩ := ob_s ho48
              refine ep_get (C := RX5) (T := TX5) (N := 11) (ci := 5) hx hb hts in_X5 hown hK hw rfl 8 (by decide) q321 (gI_f ev53) dX5_next_117 ?_
              refine lv_iconst (v := iI 1) hx hb dX5_next_120 rfl ?_
              refine lv_iadd hx hb dX5_next_121 ?_
              obtain ⟨h54, eh54, ho48⟩ := ob_s ho48
              refine ep_put (C := RX5) (T := TX5) (N := 11) (ci := 5) hx hb hts in_X5 tyX5 tyX5_ok nmX5 hown hK hw rfl (by decide) 8 (by decide) q321 rfl rfl rfl eh54 dX5_next_122 (fun H locs hw => ?_)
              refine lv_goto (tgt := 94) hx hb dX5_next_125 (by decide) ?_
              exact ih48 _ ho48 _ _ _ hw (lv_sub hl [0] rfl)
        exact hL48 FUEL _ ho48 _ _ _ hw (lv_sub hl [1] rfl)
    · have hf := oi_t hf c14
      refine lv_aload_n hx hb dX5_next_64 rfl (lv_at hl 1 rfl) ?_
      refine lv_aload_n hx hb dX5_next_65 rfl (lv_at hl 1 rfl) ?_
      obtain ⟨v56, ev56, hf⟩ := ob_s hf
      refine ep_get (C := RX5) (T := TX5) (N := 11) (ci := 5) hx hb hts in_X5 hown hK hw rfl 7 (by decide) q320 (gI_f ev56) dX5_next_66 ?_
      obtain ⟨h57, eh57, hf⟩ := ob_s hf
      refine ep_put (C := RX5) (T := TX5) (N := 11) (ci := 5) hx hb hts in_X5 tyX5 tyX5_ok nmX5 hown hK hw rfl (by decide) 8 (by decide) q321 rfl rfl rfl eh57 dX5_next_69 (fun H locs hw => ?_)
      refine lv_aload_n hx hb dX5_next_72 rfl (lv_at hl 1 rfl) ?_
      refine lv_iconst (v := iI 0) hx hb dX5_next_73 rfl ?_
      obtain ⟨h58, eh58, hf⟩ := ob_s hf
      refine ep_put (C := RX5) (T := TX5) (N := 11) (ci := 5) hx hb hts in_X5 tyX5 tyX5_ok nmX5 hown hK hw rfl (by decide) 9 (by decide) q322 rfl rfl rfl eh58 dX5_next_74 (fun H locs hw => ?_)
      refine lv_goto (tgt := 292) hx hb dX5_next_77 (by decide) ?_
      cases hf
  have hL3 : ∀ (fu : Nat) (h : Hp), fX5_next_L8 a0 fu h = some o3 → ∀ (H : Heap) (locs : List Loc) (ls : Array Slot), ep_W G ep_cl h s H locs → lv_has ls 2 [(0, .ref a0)] → wTX5_next p l e s m below meth c G h a0 res 0 0 H locs (F0 m 8 ls []) := by
    intro fu
    induction fu with
    | zero => intro h ho3; cases ho3
    | succ fu ih3 =>
      intro h ho3 H locs ls hw hl
      rw [fX5_next_L8] at ho3
      refine lv_aload_n hx hb dX5_next_8 rfl (lv_at hl 0 rfl) ?_
      refine lv_aload_n hx hb dX5_next_9 rfl (lv_at hl 0 rfl) ?_
      obtain ⟨v4, ev4, ho3⟩ := ob_s ho3
      refine ep_get (C := RX5) (T := TX5) (N := 11) (ci := 5) hx hb hts in_X5 hown hK hw rfl 7 (by decide) q320 (gI_f ev4) dX5_next_10 ?_
      obtain ⟨v5, ev5, ho3⟩ := ob_s ho3
      refine ep_calli0 (va_runV (As := [.int v4]) (rest := []) ⟨hx, hb, hml, hown, hts⟩ (metX5_at l G h a0 v4 ev5) (cwV 1 hts (lw_V q206 q208 qs1 q91 q209) rfl rfl rfl hdX5_at ⟨Nat.le_of_ble_eq_true rfl, Nat.le_of_ble_eq_true rfl⟩) (ep_preV hK hZ hw rfl (ckX5_at ev5)) rfl rfl hl.1 rfl (lv_room (Nat.le_of_ble_eq_true rfl)) dX5_next_13 ⟨Nat.le_of_ble_eq_true rfl, Nat.le_of_ble_eq_true rfl⟩) hw (fun H locs hw => ?_)
      refine lv_bipush (v := iI 32) hx hb dX5_next_16 (by decide) ?_
      refine lv_icmp_ne (tgt := 34) hx hb dX5_next_18 (by decide) (fun c6 => ?_) (fun c6 => ?_)
      · have ho3 := oi_f ho3 c6
        obtain rfl := Option.some.inj ho3
        exact hJ3 _ _ _ hw (lv_sub hl [0] rfl)
      · have ho3 := oi_t ho3 c6
        refine lv_aload_n hx hb dX5_next_21 rfl (lv_at hl 0 rfl) ?_
        refine lv_dup hx hb dX5_next_22 rfl ?_
        obtain ⟨v7, ev7, ho3⟩ := ob_s ho3
        refine ep_get (C := RX5) (T := TX5) (N := 11) (ci := 5) hx hb hts in_X5 hown hK hw rfl 7 (by decide) q320 (gI_f ev7) dX5_next_23 ?_
        refine lv_iconst (v := iI 1) hx hb dX5_next_26 rfl ?_
        refine lv_iadd hx hb dX5_next_27 ?_
        obtain ⟨h8, eh8, ho3⟩ := ob_s ho3
        refine ep_put (C := RX5) (T := TX5) (N := 11) (ci := 5) hx hb hts in_X5 tyX5 tyX5_ok nmX5 hown hK hw rfl (by decide) 7 (by decide) q320 rfl rfl rfl eh8 dX5_next_28 (fun H locs hw => ?_)
        refine lv_goto (tgt := 8) hx hb dX5_next_31 (by decide) ?_
        exact ih3 _ ho3 _ _ _ hw (lv_sub hl [0] rfl)
  exact hL3 FUEL _ ho3 _ _ _ hw (lv_sub hl [0] rfl)
theorem hdX5_init : yX5_init.cls = RX5 ∧ yX5_init.cls ≠ "java/lang/invoke/MethodHandle" ∧ yX5_init.cls ≠ "java/lang/invoke/VarHandle" ∧ (parseMethodDescriptor yX5_init.desc).map (fun d => d.parameters.length) = some 1 := by decide +kernel
theorem ckX5_init {h : Hp} {a0 : Nat} {a1 : Nat} {res : Thr ⊕ (Hp)} (hf : fX5_init h a0 a1 = some res) : ep_cls h a0 = some 5 := by
  unfold fX5_init at hf
  exact (oi_c hf).1
abbrev wX5_init (p : Program) (l : Launch) (e : Env) (s : State) (m : MethodId) (below : List Frame) (meth : Method) (c : Code) (G : EG) (h : Hp) (a0 : Nat) (a1 : Nat) (res : Hp) (k9 n9 : Nat) (H : Heap) (locs : List Loc) (g : JFrame) : Prop := W p l e (headSpec (ws_ yX5_init cX5_init 2 none) ({ frames := 7, cells := 14, slots := 73, locals := 157 } : Room)).room s m ([.ref a0, .ref a1] : List Value).toArray below meth c H locs k9 n9 (MQ below (ep_Qv G ep_cl res) ([.ref a0, .ref a1] : List Value).toArray s 14 73 (ep_A G)) g
set_option maxHeartbeats 4000000 in
theorem metX5_init (l : Launch) (G : EG) (h : Hp) (a0 : Nat) (a1 : Nat) {res : Hp} (hf : fX5_init h a0 a1 = some (.inr res)) : Met l yX5_init (ws_ yX5_init cX5_init 2 none) ({ frames := 7, cells := 14, slots := 73, locals := 157 } : Room) (ep_Pc G ep_cl h [.ref a0, .ref a1]) (ep_Qv G ep_cl res) 14 73 (ep_A G) := by
  refine Met.ofW (cc := cX5_init) (maxL := 2) (ret := none) (by decide) rfl ?_
  intro p e s m args below meth c s₁ B hml hv
  obtain ⟨rfl, hR, hK, hZ⟩ := hv
  have hx := B.exec
  have hb := B.bytes
  have hr := B.returns
  have hlocks := B.notSynchronized
  have hts := atoms_spec (ws := (ws_ yX5_init cX5_init 2 none)) B.pre
  have hts : ∀ w ∈ lw_all, w.before _ s = true := fun w h => hts w (List.mem_cons_of_mem _ h)
  have hown : s.vm.findClass RX5 = some m.cls := findClass_of_methodNamed B.named
  have hin : meth.name = "<init>" := (name_of_methodNamed B.named B.method).1
  have hw : ep_W G ep_cl h s s.heap [] := ⟨hR, va_S.rf⟩
  have hl := lv_entry ([.ref a0, .ref a1]) (n := 2) (Nat.le_of_ble_eq_true rfl)
  rw [lg_entry_eq]
  generalize (lg_sl ([.ref a0, .ref a1]) ++ List.replicate (2 - (lg_sl ([.ref a0, .ref a1])).length) Slot.unset).toArray = ls at hl ⊢
  have hl : lv_has ls 2 [(0, .ref a0), (1, .ref a1)] := hl
  unfold fX5_init at hf
  have hf := (oi_c hf).2
  show wX5_init p l e s m below meth c G h a0 a1 res 0 0 s.heap ([]) (F0 m 0 ls [])
  refine lv_aload_n hx hb dX5_init_0 rfl (lv_at hl 0 rfl) ?_
  refine W.objInit hx hb hown (hts _ q134) (hts _ q135) (hts _ q136) rfl (by rw [hml]; exact hl.1) rfl dX5_init_1 (Nat.le_of_ble_eq_true rfl) (Nat.le_of_ble_eq_true rfl) ?_
  refine W.eq (g2 := F0 m 4 ls []) rfl ?_
  refine lv_aload_n hx hb dX5_init_4 rfl (lv_at hl 0 rfl) ?_
  obtain ⟨h1, eh1, hf⟩ := ob_s hf
  refine ep_newH (C := RX1) (T := TX1) (N := 11) (ci := 1) hx hb hts in_X1 tyX1 tyX1_ok hown q137 q138 q86 hK hw rfl (by decide) (Nat.le_of_ble_eq_true rfl) (Nat.le_of_ble_eq_true rfl) eh1 dX5_init_5 (fun H locs hw => ?_)
  refine lv_dup hx hb dX5_init_8 rfl ?_
  obtain ⟨o2, eo2, hf⟩ := ob_s hf
  refine ep_callv (va_runIN (As := []) (rest := [.ref h.1, .ref a0]) ⟨hx, hb, hml, hown, hts⟩ (metX1_init l G h1 h.1 eo2) ⟨va_cnB 0 hts (lw_meth q141) rfl rfl rfl (hK.nest q139 rfl) (hts _ q86) hdX1_init.2 ⟨Nat.le_of_ble_eq_true rfl, Nat.le_of_ble_eq_true rfl⟩, rfl, hts _ q140⟩ (ep_preS hK hZ hw) rfl rfl hl.1 rfl (lv_room (Nat.le_of_ble_eq_true rfl)) dX5_init_9 ⟨Nat.le_of_ble_eq_true rfl, Nat.le_of_ble_eq_true rfl⟩) hw (fun H locs hw => ?_)
  obtain ⟨h3, eh3, hf⟩ := ob_s hf
  refine ep_putF (C := RX5) (T := TX5) (N := 11) (ci := 5) hx hb hts in_X5 tyX5 tyX5_ok nmX5 hown hK hw rfl (by decide) 1 (by decide) q309 rfl hin rfl rfl rfl eh3 dX5_init_12 (fun H locs hw => ?_)
  refine lv_aload_n hx hb dX5_init_15 rfl (lv_at hl 0 rfl) ?_
  refine lv_iconst (v := iI 4) hx hb dX5_init_16 rfl ?_
  obtain ⟨h4, eh4, hf⟩ := ob_s hf
  refine ep_newqH 6 4 hx hb hts hown q200 hK.2.2.2.1.1 (by decide) rfl hK hw (by decide) (Nat.le_of_ble_eq_true rfl) (Nat.le_of_ble_eq_true rfl) eh4 dX5_init_17 (fun H locs hw => ?_)
  obtain ⟨h5, eh5, hf⟩ := ob_s hf
  refine ep_putF (C := RX5) (T := TX5) (N := 11) (ci := 5) hx hb hts in_X5 tyX5 tyX5_ok nmX5 hown hK hw rfl (by decide) 2 (by decide) q311 rfl hin rfl rfl rfl eh5 dX5_init_20 (fun H locs hw => ?_)
  refine lv_aload_n hx hb dX5_init_23 rfl (lv_at hl 0 rfl) ?_
  refine lv_bipush (v := iI (-4)) hx hb dX5_init_24 (by decide) ?_
  obtain ⟨h6, eh6, hf⟩ := ob_s hf
  refine ep_put (C := RX5) (T := TX5) (N := 11) (ci := 5) hx hb hts in_X5 tyX5 tyX5_ok nmX5 hown hK hw rfl (by decide) 5 (by decide) q317 rfl rfl rfl eh6 dX5_init_26 (fun H locs hw => ?_)
  refine lv_aload_n hx hb dX5_init_29 rfl (lv_at hl 0 rfl) ?_
  refine lv_aload_n hx hb dX5_init_30 rfl (lv_at hl 1 rfl) ?_
  obtain ⟨h7, eh7, hf⟩ := ob_s hf
  refine ep_putF (C := RX5) (T := TX5) (N := 11) (ci := 5) hx hb hts in_X5 tyX5 tyX5_ok nmX5 hown hK hw rfl (by decide) 0 (by decide) q308 rfl hin rfl rfl rfl eh7 dX5_init_31 (fun H locs hw => ?_)
  refine lv_aload_n hx hb dX5_init_34 rfl (lv_at hl 0 rfl) ?_
  obtain ⟨zo8, eo8, hko8⟩ := orL_s hf
  rcases zo8 with xo8 | o8
  · have hf := orL_1 hko8 rfl
    cases hf
  have hf := orL_2 hko8 rfl
  refine ep_callv0 (va_runV (As := []) (rest := []) ⟨hx, hb, hml, hown, hts⟩ (metX5_next l G h7 a0 eo8) (cwV 0 hts (lw_V q202 q204 qs0 q91 q205) rfl rfl rfl hdX5_next ⟨Nat.le_of_ble_eq_true rfl, Nat.le_of_ble_eq_true rfl⟩) (ep_preV hK hZ hw rfl (ckX5_next eo8)) rfl rfl hl.1 rfl (lv_room (Nat.le_of_ble_eq_true rfl)) dX5_init_35 ⟨Nat.le_of_ble_eq_true rfl, Nat.le_of_ble_eq_true rfl⟩) hw (fun H locs hw => ?_)
  exact ep_retvW hx hb hr hlocks hw (sm_r hf) dX5_init_38
abbrev wTX5_init (p : Program) (l : Launch) (e : Env) (s : State) (m : MethodId) (below : List Frame) (meth : Method) (c : Code) (G : EG) (h : Hp) (a0 : Nat) (a1 : Nat) (res : Thr) (k9 n9 : Nat) (H : Heap) (locs : List Loc) (g : JFrame) : Prop := W p l e (headSpec (ws_ yX5_init cX5_init 2 none) ({ frames := 7, cells := 15, slots := 81, locals := 157 } : Room)).room s m ([.ref a0, .ref a1] : List Value).toArray below meth c H locs k9 n9 (MQT below (ep_Qt G ep_cl res) ([.ref a0, .ref a1] : List Value).toArray s 15 81 (ep_A G)) g
set_option maxHeartbeats 4000000 in
theorem metTX5_init (l : Launch) (G : EG) (h : Hp) (a0 : Nat) (a1 : Nat) {res : Thr} (hf : fX5_init h a0 a1 = some (.inl res)) : MetT l yX5_init (ws_ yX5_init cX5_init 2 none) ({ frames := 7, cells := 15, slots := 81, locals := 157 } : Room) (ep_Pc G ep_cl h [.ref a0, .ref a1]) (ep_Qt G ep_cl res) 15 81 (ep_A G) := by
  refine MetT.ofW (cc := cX5_init) (maxL := 2) (ret := none) (by decide) rfl ?_
  intro p e s m args below meth c s₁ B hml hv
  obtain ⟨rfl, hR, hK, hZ⟩ := hv
  have hx := B.exec
  have hb := B.bytes
  have hr := B.returns
  have hlocks := B.notSynchronized
  have hts := atoms_spec (ws := (ws_ yX5_init cX5_init 2 none)) B.pre
  have hno : c.exceptionTable.toList = [] := by
    have h := B.noHandlers (hts _ List.mem_cons_self)
    simpa using h
  have hts : ∀ w ∈ lw_all, w.before _ s = true := fun w h => hts w (List.mem_cons_of_mem _ h)
  have hown : s.vm.findClass RX5 = some m.cls := findClass_of_methodNamed B.named
  have hin : meth.name = "<init>" := (name_of_methodNamed B.named B.method).1
  have hw : ep_W G ep_cl h s s.heap [] := ⟨hR, va_S.rf⟩
  have hl := lv_entry ([.ref a0, .ref a1]) (n := 2) (Nat.le_of_ble_eq_true rfl)
  rw [lg_entry_eq]
  generalize (lg_sl ([.ref a0, .ref a1]) ++ List.replicate (2 - (lg_sl ([.ref a0, .ref a1])).length) Slot.unset).toArray = ls at hl ⊢
  have hl : lv_has ls 2 [(0, .ref a0), (1, .ref a1)] := hl
  unfold fX5_init at hf
  have hf := (oi_c hf).2
  show wTX5_init p l e s m below meth c G h a0 a1 res 0 0 s.heap ([]) (F0 m 0 ls [])
  refine lv_aload_n hx hb dX5_init_0 rfl (lv_at hl 0 rfl) ?_
  refine W.objInit hx hb hown (hts _ q134) (hts _ q135) (hts _ q136) rfl (by rw [hml]; exact hl.1) rfl dX5_init_1 (Nat.le_of_ble_eq_true rfl) (Nat.le_of_ble_eq_true rfl) ?_
  refine W.eq (g2 := F0 m 4 ls []) rfl ?_
  refine lv_aload_n hx hb dX5_init_4 rfl (lv_at hl 0 rfl) ?_
  obtain ⟨h1, eh1, hf⟩ := ob_s hf
  refine ep_newH (C := RX1) (T := TX1) (N := 11) (ci := 1) hx hb hts in_X1 tyX1 tyX1_ok hown q137 q138 q86 hK hw rfl (by decide) (Nat.le_of_ble_eq_true rfl) (Nat.le_of_ble_eq_true rfl) eh1 dX5_init_5 (fun H locs hw => ?_)
  refine lv_dup hx hb dX5_init_8 rfl ?_
  obtain ⟨o2, eo2, hf⟩ := ob_s hf
  refine ep_callv (va_runIN (As := []) (rest := [.ref h.1, .ref a0]) ⟨hx, hb, hml, hown, hts⟩ (metX1_init l G h1 h.1 eo2) ⟨va_cnB 0 hts (lw_meth q141) rfl rfl rfl (hK.nest q139 rfl) (hts _ q86) hdX1_init.2 ⟨Nat.le_of_ble_eq_true rfl, Nat.le_of_ble_eq_true rfl⟩, rfl, hts _ q140⟩ (ep_preS hK hZ hw) rfl rfl hl.1 rfl (lv_room (Nat.le_of_ble_eq_true rfl)) dX5_init_9 ⟨Nat.le_of_ble_eq_true rfl, Nat.le_of_ble_eq_true rfl⟩) hw (fun H locs hw => ?_)
  obtain ⟨h3, eh3, hf⟩ := ob_s hf
  refine ep_putF (C := RX5) (T := TX5) (N := 11) (ci := 5) hx hb hts in_X5 tyX5 tyX5_ok nmX5 hown hK hw rfl (by decide) 1 (by decide) q309 rfl hin rfl rfl rfl eh3 dX5_init_12 (fun H locs hw => ?_)
  refine lv_aload_n hx hb dX5_init_15 rfl (lv_at hl 0 rfl) ?_
  refine lv_iconst (v := iI 4) hx hb dX5_init_16 rfl ?_
  obtain ⟨h4, eh4, hf⟩ := ob_s hf
  refine ep_newqH 6 4 hx hb hts hown q200 hK.2.2.2.1.1 (by decide) rfl hK hw (by decide) (Nat.le_of_ble_eq_true rfl) (Nat.le_of_ble_eq_true rfl) eh4 dX5_init_17 (fun H locs hw => ?_)
  obtain ⟨h5, eh5, hf⟩ := ob_s hf
  refine ep_putF (C := RX5) (T := TX5) (N := 11) (ci := 5) hx hb hts in_X5 tyX5 tyX5_ok nmX5 hown hK hw rfl (by decide) 2 (by decide) q311 rfl hin rfl rfl rfl eh5 dX5_init_20 (fun H locs hw => ?_)
  refine lv_aload_n hx hb dX5_init_23 rfl (lv_at hl 0 rfl) ?_
  refine lv_bipush (v := iI (-4)) hx hb dX5_init_24 (by decide) ?_
  obtain ⟨h6, eh6, hf⟩ := ob_s hf
  refine ep_put (C := RX5) (T := TX5) (N := 11) (ci := 5) hx hb hts in_X5 tyX5 tyX5_ok nmX5 hown hK hw rfl (by decide) 5 (by decide) q317 rfl rfl rfl eh6 dX5_init_26 (fun H locs hw => ?_)
  refine lv_aload_n hx hb dX5_init_29 rfl (lv_at hl 0 rfl) ?_
  refine lv_aload_n hx hb dX5_init_30 rfl (lv_at hl 1 rfl) ?_
  obtain ⟨h7, eh7, hf⟩ := ob_s hf
  refine ep_putF (C := RX5) (T := TX5) (N := 11) (ci := 5) hx hb hts in_X5 tyX5 tyX5_ok nmX5 hown hK hw rfl (by decide) 0 (by decide) q308 rfl hin rfl rfl rfl eh7 dX5_init_31 (fun H locs hw => ?_)
  refine lv_aload_n hx hb dX5_init_34 rfl (lv_at hl 0 rfl) ?_
  obtain ⟨zo8, eo8, hko8⟩ := orL_s hf
  rcases zo8 with xo8 | o8
  · have hf := orL_1 hko8 rfl
    exact ep_outT' hno hlocks (ep_runVT (As := []) (rest := []) ⟨hx, hb, hml, hown, hts⟩ (metTX5_next l G h7 a0 eo8) (cwV 0 hts (lw_V q202 q204 qs0 q91 q205) rfl rfl rfl hdX5_next ⟨Nat.le_of_ble_eq_true rfl, Nat.le_of_ble_eq_true rfl⟩) (ep_preV hK hZ hw rfl (ckX5_next eo8)) rfl rfl hl.1 rfl (lv_room (Nat.le_of_ble_eq_true rfl)) dX5_init_35 ⟨Nat.le_of_ble_eq_true rfl, Nat.le_of_ble_eq_true rfl⟩) hw hf
  have hf := orL_2 hko8 rfl
  refine ep_callv0 (va_runV (As := []) (rest := []) ⟨hx, hb, hml, hown, hts⟩ (metX5_next l G h7 a0 eo8) (cwV 0 hts (lw_V q202 q204 qs0 q91 q205) rfl rfl rfl hdX5_next ⟨Nat.le_of_ble_eq_true rfl, Nat.le_of_ble_eq_true rfl⟩) (ep_preV hK hZ hw rfl (ckX5_next eo8)) rfl rfl hl.1 rfl (lv_room (Nat.le_of_ble_eq_true rfl)) dX5_init_35 ⟨Nat.le_of_ble_eq_true rfl, Nat.le_of_ble_eq_true rfl⟩) hw (fun H locs hw => ?_)
  cases hf
theorem hdJ3_coder : yJ3_coder.cls = RJ3 ∧ yJ3_coder.cls ≠ "java/lang/invoke/MethodHandle" ∧ yJ3_coder.cls ≠ "java/lang/invoke/VarHandle" ∧ (parseMethodDescriptor yJ3_coder.desc).map (fun d => d.parameters.length) = some 0 := by decide +kernel
theorem ckS_J3_coder {k0 : Nat} {res : Int32} (hf : fJ3_coder k0 = some res) : k0 < 7 := by
  unfold fJ3_coder at hf
  exact (oi_c hf).1
abbrev wJ3_coder (p : Program) (l : Launch) (e : Env) (s : State) (m : MethodId) (below : List Frame) (meth : Method) (c : Code) (G : EG) (h : Hp) (k0 : Nat) (res : Int32) (k9 n9 : Nat) (H : Heap) (locs : List Loc) (g : JFrame) : Prop := W p l e (headSpec (ws_ yJ3_coder cJ3_coder 1 (some .byte)) ({ frames := 0, cells := 0, slots := 0, locals := 0 } : Room)).room s m ([.ref (G.2.2.2 (10 + k0))] : List Value).toArray below meth c H locs k9 n9 (MQ below (ep_Qi G ep_cl h res) ([.ref (G.2.2.2 (10 + k0))] : List Value).toArray s 0 0 (ep_A G)) g
set_option maxHeartbeats 4000000 in
theorem metJ3_coder (l : Launch) (G : EG) (h : Hp) (k0 : Nat) {res : Int32} (hf : fJ3_coder k0 = some res) : Met l yJ3_coder (ws_ yJ3_coder cJ3_coder 1 (some .byte)) ({ frames := 0, cells := 0, slots := 0, locals := 0 } : Room) (ep_Pc G ep_cl h [.ref (G.2.2.2 (10 + k0))]) (ep_Qi G ep_cl h res) 0 0 (ep_A G) := by
  refine Met.ofW (cc := cJ3_coder) (maxL := 1) (ret := (some .byte)) (by decide) rfl ?_
  intro p e s m args below meth c s₁ B hml hv
  obtain ⟨rfl, hR, hK, hZ⟩ := hv
  have hx := B.exec
  have hb := B.bytes
  have hr := B.returns
  have hlocks := B.notSynchronized
  have hts := atoms_spec (ws := (ws_ yJ3_coder cJ3_coder 1 (some .byte))) B.pre
  have hts : ∀ w ∈ lw_all, w.before _ s = true := fun w h => hts w (List.mem_cons_of_mem _ h)
  have hown : s.vm.findClass RJ3 = some m.cls := findClass_of_methodNamed B.named
  have hw : ep_W G ep_cl h s s.heap [] := ⟨hR, va_S.rf⟩
  have hl := lv_entry ([.ref (G.2.2.2 (10 + k0))]) (n := 1) (Nat.le_of_ble_eq_true rfl)
  rw [lg_entry_eq]
  generalize (lg_sl ([.ref (G.2.2.2 (10 + k0))]) ++ List.replicate (1 - (lg_sl ([.ref (G.2.2.2 (10 + k0))])).length) Slot.unset).toArray = ls at hl ⊢
  have hl : lv_has ls 1 [(0, .ref (G.2.2.2 (10 + k0)))] := hl
  unfold fJ3_coder at hf
  have hf := (oi_c hf).2
  show wJ3_coder p l e s m below meth c G h k0 res 0 0 s.heap ([]) (F0 m 0 ls [])
  refine ep_compact hx hb hts hown hZ hw q369 dJ3_coder_0 ?_
  refine lv_if_eq (tgt := 13) hx hb dJ3_coder_3 (by decide) (fun c1 => ?_) (fun c1 => ?_)
  · have hf := oi_t hf c1
    cases hf
  · have hf := oi_f hf c1
    refine lv_aload_n hx hb dJ3_coder_6 rfl (lv_at hl 0 rfl) ?_
    obtain ⟨u2, eu2, hf⟩ := ob_s hf
    refine ep_scod (sCk_s eu2) hx hb hts hown hZ hw q1639 dJ3_coder_7 ?_
    refine lv_goto (tgt := 14) hx hb dJ3_coder_10 (by decide) ?_
    obtain ⟨z, ez, hf⟩ := ob_s hf
    obtain ⟨hz, hn⟩ := ckB_s ez
    rw [hz] at hf
    exact ep_retzR hx hb hr hn hlocks hw hf dJ3_coder_14
theorem hdJ3_length : yJ3_length.cls = RJ3 ∧ yJ3_length.cls ≠ "java/lang/invoke/MethodHandle" ∧ yJ3_length.cls ≠ "java/lang/invoke/VarHandle" ∧ (parseMethodDescriptor yJ3_length.desc).map (fun d => d.parameters.length) = some 0 := by decide +kernel
theorem ckS_J3_length {k0 : Nat} {res : Int32} (hf : fJ3_length k0 = some res) : k0 < 7 := by
  unfold fJ3_length at hf
  exact (oi_c hf).1
abbrev wJ3_length (p : Program) (l : Launch) (e : Env) (s : State) (m : MethodId) (below : List Frame) (meth : Method) (c : Code) (G : EG) (h : Hp) (k0 : Nat) (res : Int32) (k9 n9 : Nat) (H : Heap) (locs : List Loc) (g : JFrame) : Prop := W p l e (headSpec (ws_ yJ3_length cJ3_length 1 (some .int)) ({ frames := 1, cells := 0, slots := 0, locals := 20 } : Room)).room s m ([.ref (G.2.2.2 (10 + k0))] : List Value).toArray below meth c H locs k9 n9 (MQ below (ep_Qi G ep_cl h res) ([.ref (G.2.2.2 (10 + k0))] : List Value).toArray s 0 0 (ep_A G)) g
set_option maxHeartbeats 4000000 in
theorem metJ3_length (l : Launch) (G : EG) (h : Hp) (k0 : Nat) {res : Int32} (hf : fJ3_length k0 = some res) : Met l yJ3_length (ws_ yJ3_length cJ3_length 1 (some .int)) ({ frames := 1, cells := 0, slots := 0, locals := 20 } : Room) (ep_Pc G ep_cl h [.ref (G.2.2.2 (10 + k0))]) (ep_Qi G ep_cl h res) 0 0 (ep_A G) := by
  refine Met.ofW (cc := cJ3_length) (maxL := 1) (ret := (some .int)) (by decide) rfl ?_
  intro p e s m args below meth c s₁ B hml hv
  obtain ⟨rfl, hR, hK, hZ⟩ := hv
  have hx := B.exec
  have hb := B.bytes
  have hr := B.returns
  have hlocks := B.notSynchronized
  have hts := atoms_spec (ws := (ws_ yJ3_length cJ3_length 1 (some .int))) B.pre
  have hts : ∀ w ∈ lw_all, w.before _ s = true := fun w h => hts w (List.mem_cons_of_mem _ h)
  have hown : s.vm.findClass RJ3 = some m.cls := findClass_of_methodNamed B.named
  have hw : ep_W G ep_cl h s s.heap [] := ⟨hR, va_S.rf⟩
  have hl := lv_entry ([.ref (G.2.2.2 (10 + k0))]) (n := 1) (Nat.le_of_ble_eq_true rfl)
  rw [lg_entry_eq]
  generalize (lg_sl ([.ref (G.2.2.2 (10 + k0))]) ++ List.replicate (1 - (lg_sl ([.ref (G.2.2.2 (10 + k0))])).length) Slot.unset).toArray = ls at hl ⊢
  have hl : lv_has ls 1 [(0, .ref (G.2.2.2 (10 + k0)))] := hl
  unfold fJ3_length at hf
  have hf := (oi_c hf).2
  show wJ3_length p l e s m below meth c G h k0 res 0 0 s.heap ([]) (F0 m 0 ls [])
  refine lv_aload_n hx hb dJ3_length_0 rfl (lv_at hl 0 rfl) ?_
  obtain ⟨u1, eu1, hf⟩ := ob_s hf
  refine ep_sval (sCk_s eu1) hx hb hts hown hZ hw q1638 dJ3_length_1 ?_
  obtain ⟨v2, ev2, hf⟩ := ob_s hf
  refine ep_slen hx hb hZ hw ev2 dJ3_length_4 ?_
  refine lv_aload_n hx hb dJ3_length_5 rfl (lv_at hl 0 rfl) ?_
  obtain ⟨v3, ev3, hf⟩ := ob_s hf
  refine ep_calli0 (va_runV (As := []) (rest := [.int v2]) ⟨hx, hb, hml, hown, hts⟩ (metJ3_coder l G h k0 ev3) (cwV 0 hts (lw_V q365 q366 q367 q96 q368) rfl rfl rfl hdJ3_coder ⟨Nat.le_of_ble_eq_true rfl, Nat.le_of_ble_eq_true rfl⟩) (ep_preK (ckS_J3_coder ev3) hK hZ hw) rfl rfl hl.1 rfl (lv_room (Nat.le_of_ble_eq_true rfl)) dJ3_length_6 ⟨Nat.le_of_ble_eq_true rfl, Nat.le_of_ble_eq_true rfl⟩) hw (fun H locs hw => ?_)
  refine lv_ishr hx hb dJ3_length_9 ?_
  exact ep_retiR hx hb hr hlocks hw hf dJ3_length_10
theorem hdJ3_isLatin1 : yJ3_isLatin1.cls = RJ3 ∧ yJ3_isLatin1.cls ≠ "java/lang/invoke/MethodHandle" ∧ yJ3_isLatin1.cls ≠ "java/lang/invoke/VarHandle" ∧ (parseMethodDescriptor yJ3_isLatin1.desc).map (fun d => d.parameters.length) = some 0 := by decide +kernel
theorem ckS_J3_isLatin1 {k0 : Nat} {res : Int32} (hf : fJ3_isLatin1 k0 = some res) : k0 < 7 := by
  unfold fJ3_isLatin1 at hf
  exact (oi_c hf).1
abbrev wJ3_isLatin1 (p : Program) (l : Launch) (e : Env) (s : State) (m : MethodId) (below : List Frame) (meth : Method) (c : Code) (G : EG) (h : Hp) (k0 : Nat) (res : Int32) (k9 n9 : Nat) (H : Heap) (locs : List Loc) (g : JFrame) : Prop := W p l e (headSpec (ws_ yJ3_isLatin1 cJ3_isLatin1 1 (some .boolean)) ({ frames := 0, cells := 0, slots := 0, locals := 0 } : Room)).room s m ([.ref (G.2.2.2 (10 + k0))] : List Value).toArray below meth c H locs k9 n9 (MQ below (ep_Qi G ep_cl h res) ([.ref (G.2.2.2 (10 + k0))] : List Value).toArray s 0 0 (ep_A G)) g
set_option maxHeartbeats 4000000 in
theorem metJ3_isLatin1 (l : Launch) (G : EG) (h : Hp) (k0 : Nat) {res : Int32} (hf : fJ3_isLatin1 k0 = some res) : Met l yJ3_isLatin1 (ws_ yJ3_isLatin1 cJ3_isLatin1 1 (some .boolean)) ({ frames := 0, cells := 0, slots := 0, locals := 0 } : Room) (ep_Pc G ep_cl h [.ref (G.2.2.2 (10 + k0))]) (ep_Qi G ep_cl h res) 0 0 (ep_A G) := by
  refine Met.ofW (cc := cJ3_isLatin1) (maxL := 1) (ret := (some .boolean)) (by decide) rfl ?_
  intro p e s m args below meth c s₁ B hml hv
  obtain ⟨rfl, hR, hK, hZ⟩ := hv
  have hx := B.exec
  have hb := B.bytes
  have hr := B.returns
  have hlocks := B.notSynchronized
  have hts := atoms_spec (ws := (ws_ yJ3_isLatin1 cJ3_isLatin1 1 (some .boolean))) B.pre
  have hts : ∀ w ∈ lw_all, w.before _ s = true := fun w h => hts w (List.mem_cons_of_mem _ h)
  have hown : s.vm.findClass RJ3 = some m.cls := findClass_of_methodNamed B.named
  have hw : ep_W G ep_cl h s s.heap [] := ⟨hR, va_S.rf⟩
  have hl := lv_entry ([.ref (G.2.2.2 (10 + k0))]) (n := 1) (Nat.le_of_ble_eq_true rfl)
  rw [lg_entry_eq]
  generalize (lg_sl ([.ref (G.2.2.2 (10 + k0))]) ++ List.replicate (1 - (lg_sl ([.ref (G.2.2.2 (10 + k0))])).length) Slot.unset).toArray = ls at hl ⊢
  have hl : lv_has ls 1 [(0, .ref (G.2.2.2 (10 + k0)))] := hl
  unfold fJ3_isLatin1 at hf
  have hf := (oi_c hf).2
  show wJ3_isLatin1 p l e s m below meth c G h k0 res 0 0 s.heap ([]) (F0 m 0 ls [])
  refine ep_compact hx hb hts hown hZ hw q369 dJ3_isLatin1_0 ?_
  refine lv_if_eq (tgt := 17) hx hb dJ3_isLatin1_3 (by decide) (fun c1 => ?_) (fun c1 => ?_)
  · have hf := oi_t hf c1
    refine lv_iconst (v := iI 0) hx hb dJ3_isLatin1_17 rfl ?_
    exact ep_retzR hx hb hr rfl hlocks hw hf dJ3_isLatin1_18
  · have hf := oi_f hf c1
    refine lv_aload_n hx hb dJ3_isLatin1_6 rfl (lv_at hl 0 rfl) ?_
    obtain ⟨u2, eu2, hf⟩ := ob_s hf
    refine ep_scod (sCk_s eu2) hx hb hts hown hZ hw q1639 dJ3_isLatin1_7 ?_
    refine lv_if_ne (tgt := 17) hx hb dJ3_isLatin1_10 (by decide) (fun c3 => ?_) (fun c3 => ?_)
    · have hf := oi_f hf c3
      refine lv_iconst (v := iI 0) hx hb dJ3_isLatin1_17 rfl ?_
      exact ep_retzR hx hb hr rfl hlocks hw hf dJ3_isLatin1_18
    · have hf := oi_t hf c3
      refine lv_iconst (v := iI 1) hx hb dJ3_isLatin1_13 rfl ?_
      refine lv_goto (tgt := 18) hx hb dJ3_isLatin1_14 (by decide) ?_
      exact ep_retzR hx hb hr rfl hlocks hw hf dJ3_isLatin1_18
theorem hsJ5_checkIndex : yJ5_checkIndex.cls ≠ "java/lang/invoke/MethodHandle" ∧ yJ5_checkIndex.cls ≠ "java/lang/invoke/VarHandle" ∧ (parseMethodDescriptor yJ5_checkIndex.desc).map (fun d => d.parameters.length) = some 3 := by decide +kernel
abbrev wJ5_checkIndex (p : Program) (l : Launch) (e : Env) (s : State) (m : MethodId) (below : List Frame) (meth : Method) (c : Code) (G : EG) (h : Hp) (x0 : Int32) (x1 : Int32) (a2 : Nat) (res : Int32) (k9 n9 : Nat) (H : Heap) (locs : List Loc) (g : JFrame) : Prop := W p l e (headSpec (ws_ yJ5_checkIndex cJ5_checkIndex 3 (some .int)) ({ frames := 0, cells := 0, slots := 0, locals := 0 } : Room)).room s m ([.int x0, .int x1, .ref a2] : List Value).toArray below meth c H locs k9 n9 (MQ below (ep_Qi G ep_cl h res) ([.int x0, .int x1, .ref a2] : List Value).toArray s 0 0 (ep_A G)) g
set_option maxHeartbeats 4000000 in
theorem metJ5_checkIndex (l : Launch) (G : EG) (h : Hp) (x0 : Int32) (x1 : Int32) (a2 : Nat) {res : Int32} (hf : fJ5_checkIndex x0 x1 = some res) : Met l yJ5_checkIndex (ws_ yJ5_checkIndex cJ5_checkIndex 3 (some .int)) ({ frames := 0, cells := 0, slots := 0, locals := 0 } : Room) (ep_Pc G ep_cl h [.int x0, .int x1, .ref a2]) (ep_Qi G ep_cl h res) 0 0 (ep_A G) := by
  refine Met.ofW (cc := cJ5_checkIndex) (maxL := 3) (ret := (some .int)) (by decide) rfl ?_
  intro p e s m args below meth c s₁ B hml hv
  obtain ⟨rfl, hR, hK, hZ⟩ := hv
  have hx := B.exec
  have hb := B.bytes
  have hr := B.returns
  have hlocks := B.notSynchronized
  have hts := atoms_spec (ws := (ws_ yJ5_checkIndex cJ5_checkIndex 3 (some .int))) B.pre
  have hts : ∀ w ∈ lw_all, w.before _ s = true := fun w h => hts w (List.mem_cons_of_mem _ h)
  have hown : s.vm.findClass RJ5 = some m.cls := findClass_of_methodNamed B.named
  have hw : ep_W G ep_cl h s s.heap [] := ⟨hR, va_S.rf⟩
  have hl := lv_entry ([.int x0, .int x1, .ref a2]) (n := 3) (Nat.le_of_ble_eq_true rfl)
  rw [lg_entry_eq]
  generalize (lg_sl ([.int x0, .int x1, .ref a2]) ++ List.replicate (3 - (lg_sl ([.int x0, .int x1, .ref a2])).length) Slot.unset).toArray = ls at hl ⊢
  have hl : lv_has ls 3 [(0, .int x0), (1, .int x1), (2, .ref a2)] := hl
  unfold fJ5_checkIndex at hf
  show wJ5_checkIndex p l e s m below meth c G h x0 x1 a2 res 0 0 s.heap ([]) (F0 m 0 ls [])
  refine lv_iload_n hx hb dJ5_checkIndex_0 rfl (lv_at hl 0 rfl) ?_
  obtain ⟨ox1, ho1, hk1⟩ := orL_s hf
  have hT1 : ∀ r, ox1 = .inl r → some r = some res := fun r eo => (by have e := orL_1 hk1 eo; exact e)
  have hJ1 : ∀ o1, ox1 = .inr o1 → ∀ (H : Heap) (locs : List Loc) (ls : Array Slot), ep_W G ep_cl h s H locs → lv_has ls 3 [(0, .int x0), (1, .int x1), (2, .ref a2)] → wJ5_checkIndex p l e s m below meth c G h x0 x1 a2 res 0 0 H locs (F0 m 9 ls []) := by
    intro o1 eo H locs ls hw hl
    have hf := orL_2 hk1 eo
    cases hf
  refine lv_if_lt (tgt := 9) hx hb dJ5_checkIndex_1 (by decide) (fun c2 => ?_) (fun c2 => ?_)
  · have ho1 := oi_t ho1 c2
    exact hJ1 _ (Option.some.inj ho1).symm _ _ _ hw (lv_sub hl [0, 1, 2] rfl)
  · have ho1 := oi_f ho1 c2
    refine lv_iload_n hx hb dJ5_checkIndex_4 rfl (lv_at hl 0 rfl) ?_
    refine lv_iload_n hx hb dJ5_checkIndex_5 rfl (lv_at hl 1 rfl) ?_
    refine lv_icmp_lt (tgt := 16) hx hb dJ5_checkIndex_6 (by decide) (fun c3 => ?_) (fun c3 => ?_)
    · have ho1 := oi_t ho1 c3
      refine lv_iload_n hx hb dJ5_checkIndex_16 rfl (lv_at hl 0 rfl) ?_
      exact ep_retiR hx hb hr hlocks hw (hT1 _ (Option.some.inj ho1).symm) dJ5_checkIndex_17
    · have ho1 := oi_f ho1 c3
      exact hJ1 _ (Option.some.inj ho1).symm _ _ _ hw (lv_sub hl [0, 1, 2] rfl)
abbrev wJ5_checkIndexN (p : Program) (l : Launch) (e : Env) (s : State) (m : MethodId) (below : List Frame) (meth : Method) (c : Code) (G : EG) (h : Hp) (x0 : Int32) (x1 : Int32) (res : Int32) (k9 n9 : Nat) (H : Heap) (locs : List Loc) (g : JFrame) : Prop := W p l e (headSpec (ws_ yJ5_checkIndex cJ5_checkIndex 3 (some .int)) ({ frames := 0, cells := 0, slots := 0, locals := 0 } : Room)).room s m ([.int x0, .int x1, .null] : List Value).toArray below meth c H locs k9 n9 (MQ below (ep_Qi G ep_cl h res) ([.int x0, .int x1, .null] : List Value).toArray s 0 0 (ep_A G)) g
set_option maxHeartbeats 4000000 in
theorem metJ5_checkIndexN (l : Launch) (G : EG) (h : Hp) (x0 : Int32) (x1 : Int32) {res : Int32} (hf : fJ5_checkIndex x0 x1 = some res) : Met l yJ5_checkIndex (ws_ yJ5_checkIndex cJ5_checkIndex 3 (some .int)) ({ frames := 0, cells := 0, slots := 0, locals := 0 } : Room) (ep_Pc G ep_cl h [.int x0, .int x1, .null]) (ep_Qi G ep_cl h res) 0 0 (ep_A G) := by
  refine Met.ofW (cc := cJ5_checkIndex) (maxL := 3) (ret := (some .int)) (by decide) rfl ?_
  intro p e s m args below meth c s₁ B hml hv
  obtain ⟨rfl, hR, hK, hZ⟩ := hv
  have hx := B.exec
  have hb := B.bytes
  have hr := B.returns
  have hlocks := B.notSynchronized
  have hts := atoms_spec (ws := (ws_ yJ5_checkIndex cJ5_checkIndex 3 (some .int))) B.pre
  have hts : ∀ w ∈ lw_all, w.before _ s = true := fun w h => hts w (List.mem_cons_of_mem _ h)
  have hown : s.vm.findClass RJ5 = some m.cls := findClass_of_methodNamed B.named
  have hw : ep_W G ep_cl h s s.heap [] := ⟨hR, va_S.rf⟩
  have hl := lv_entry ([.int x0, .int x1, .null]) (n := 3) (Nat.le_of_ble_eq_true rfl)
  rw [lg_entry_eq]
  generalize (lg_sl ([.int x0, .int x1, .null]) ++ List.replicate (3 - (lg_sl ([.int x0, .int x1, .null])).length) Slot.unset).toArray = ls at hl ⊢
  have hl : lv_has ls 3 [(0, .int x0), (1, .int x1), (2, .null)] := hl
  unfold fJ5_checkIndex at hf
  show wJ5_checkIndexN p l e s m below meth c G h x0 x1 res 0 0 s.heap ([]) (F0 m 0 ls [])
  refine lv_iload_n hx hb dJ5_checkIndex_0 rfl (lv_at hl 0 rfl) ?_
  obtain ⟨ox1, ho1, hk1⟩ := orL_s hf
  have hT1 : ∀ r, ox1 = .inl r → some r = some res := fun r eo => (by have e := orL_1 hk1 eo; exact e)
  have hJ1 : ∀ o1, ox1 = .inr o1 → ∀ (H : Heap) (locs : List Loc) (ls : Array Slot), ep_W G ep_cl h s H locs → lv_has ls 3 [(0, .int x0), (1, .int x1), (2, .null)] → wJ5_checkIndexN p l e s m below meth c G h x0 x1 res 0 0 H locs (F0 m 9 ls []) := by
    intro o1 eo H locs ls hw hl
    have hf := orL_2 hk1 eo
    cases hf
  refine lv_if_lt (tgt := 9) hx hb dJ5_checkIndex_1 (by decide) (fun c2 => ?_) (fun c2 => ?_)
  · have ho1 := oi_t ho1 c2
    exact hJ1 _ (Option.some.inj ho1).symm _ _ _ hw (lv_sub hl [0, 1, 2] rfl)
  · have ho1 := oi_f ho1 c2
    refine lv_iload_n hx hb dJ5_checkIndex_4 rfl (lv_at hl 0 rfl) ?_
    refine lv_iload_n hx hb dJ5_checkIndex_5 rfl (lv_at hl 1 rfl) ?_
    refine lv_icmp_lt (tgt := 16) hx hb dJ5_checkIndex_6 (by decide) (fun c3 => ?_) (fun c3 => ?_)
    · have ho1 := oi_t ho1 c3
      refine lv_iload_n hx hb dJ5_checkIndex_16 rfl (lv_at hl 0 rfl) ?_
      exact ep_retiR hx hb hr hlocks hw (hT1 _ (Option.some.inj ho1).symm) dJ5_checkIndex_17
    · have ho1 := oi_f ho1 c3
      exact hJ1 _ (Option.some.inj ho1).symm _ _ _ hw (lv_sub hl [0, 1, 2] rfl)
theorem hsJ3_checkIndex : yJ3_checkIndex.cls ≠ "java/lang/invoke/MethodHandle" ∧ yJ3_checkIndex.cls ≠ "java/lang/invoke/VarHandle" ∧ (parseMethodDescriptor yJ3_checkIndex.desc).map (fun d => d.parameters.length) = some 2 := by decide +kernel
abbrev wJ3_checkIndex (p : Program) (l : Launch) (e : Env) (s : State) (m : MethodId) (below : List Frame) (meth : Method) (c : Code) (G : EG) (h : Hp) (x0 : Int32) (x1 : Int32) (res : Unit) (k9 n9 : Nat) (H : Heap) (locs : List Loc) (g : JFrame) : Prop := W p l e (headSpec (ws_ yJ3_checkIndex cJ3_checkIndex 2 none) ({ frames := 1, cells := 0, slots := 0, locals := 22 } : Room)).room s m ([.int x0, .int x1] : List Value).toArray below meth c H locs k9 n9 (MQ below (ep_Qv G ep_cl h) ([.int x0, .int x1] : List Value).toArray s 0 0 (ep_A G)) g
set_option maxHeartbeats 4000000 in
theorem metJ3_checkIndex (l : Launch) (G : EG) (h : Hp) (x0 : Int32) (x1 : Int32) {res : Unit} (hf : fJ3_checkIndex x0 x1 = some res) : Met l yJ3_checkIndex (ws_ yJ3_checkIndex cJ3_checkIndex 2 none) ({ frames := 1, cells := 0, slots := 0, locals := 22 } : Room) (ep_Pc G ep_cl h [.int x0, .int x1]) (ep_Qv G ep_cl h) 0 0 (ep_A G) := by
  refine Met.ofW (cc := cJ3_checkIndex) (maxL := 2) (ret := none) (by decide) rfl ?_
  intro p e s m args below meth c s₁ B hml hv
  obtain ⟨rfl, hR, hK, hZ⟩ := hv
  have hx := B.exec
  have hb := B.bytes
  have hr := B.returns
  have hlocks := B.notSynchronized
  have hts := atoms_spec (ws := (ws_ yJ3_checkIndex cJ3_checkIndex 2 none)) B.pre
  have hts : ∀ w ∈ lw_all, w.before _ s = true := fun w h => hts w (List.mem_cons_of_mem _ h)
  have hown : s.vm.findClass RJ3 = some m.cls := findClass_of_methodNamed B.named
  have hw : ep_W G ep_cl h s s.heap [] := ⟨hR, va_S.rf⟩
  have hl := lv_entry ([.int x0, .int x1]) (n := 2) (Nat.le_of_ble_eq_true rfl)
  rw [lg_entry_eq]
  generalize (lg_sl ([.int x0, .int x1]) ++ List.replicate (2 - (lg_sl ([.int x0, .int x1])).length) Slot.unset).toArray = ls at hl ⊢
  have hl : lv_has ls 2 [(0, .int x0), (1, .int x1)] := hl
  unfold fJ3_checkIndex at hf
  show wJ3_checkIndex p l e s m below meth c G h x0 x1 res 0 0 s.heap ([]) (F0 m 0 ls [])
  refine lv_iload_n hx hb dJ3_checkIndex_0 rfl (lv_at hl 0 rfl) ?_
  refine lv_iload_n hx hb dJ3_checkIndex_1 rfl (lv_at hl 1 rfl) ?_
  obtain ⟨v1, ev1, hf⟩ := ob_s hf
  rcases hZ.1.2.2.2.1 with hz | ⟨t, hz⟩
  · refine va_gets hx hb hz hw.2 hown (hts _ q385) (fun _ z => z) dJ3_checkIndex_2 ?_
    refine ep_calli0 (va_runS (As := [.int x0, .int x1, .null]) (rest := []) ⟨hx, hb, hml, hown, hts⟩ (metJ5_checkIndexN l G h x0 x1 ev1) (va_cwS 3 hts (lw_S q387 q388 q98 q389) rfl rfl rfl hsJ5_checkIndex ⟨Nat.le_of_ble_eq_true rfl, Nat.le_of_ble_eq_true rfl⟩) (ep_preS hK hZ hw) rfl rfl hl.1 rfl (lv_room (Nat.le_of_ble_eq_true rfl)) dJ3_checkIndex_5 ⟨Nat.le_of_ble_eq_true rfl, Nat.le_of_ble_eq_true rfl⟩) hw (fun H locs hw => ?_)
    refine lv_pop hx hb dJ3_checkIndex_8 rfl ?_
    exact ep_retvR hx hb hr hlocks hw hf dJ3_checkIndex_9
  · refine va_gets hx hb hz hw.2 hown (hts _ q385) (fun _ z => z) dJ3_checkIndex_2 ?_
    refine ep_calli0 (va_runS (As := [.int x0, .int x1, .ref t]) (rest := []) ⟨hx, hb, hml, hown, hts⟩ (metJ5_checkIndex l G h x0 x1 t ev1) (va_cwS 3 hts (lw_S q387 q388 q98 q389) rfl rfl rfl hsJ5_checkIndex ⟨Nat.le_of_ble_eq_true rfl, Nat.le_of_ble_eq_true rfl⟩) (ep_preS hK hZ hw) rfl rfl hl.1 rfl (lv_room (Nat.le_of_ble_eq_true rfl)) dJ3_checkIndex_5 ⟨Nat.le_of_ble_eq_true rfl, Nat.le_of_ble_eq_true rfl⟩) hw (fun H locs hw => ?_)
    refine lv_pop hx hb dJ3_checkIndex_8 rfl ?_
    exact ep_retvR hx hb hr hlocks hw hf dJ3_checkIndex_9
theorem hsJ4_charAt : yJ4_charAt.cls ≠ "java/lang/invoke/MethodHandle" ∧ yJ4_charAt.cls ≠ "java/lang/invoke/VarHandle" ∧ (parseMethodDescriptor yJ4_charAt.desc).map (fun d => d.parameters.length) = some 2 := by decide +kernel
abbrev wJ4_charAt (p : Program) (l : Launch) (e : Env) (s : State) (m : MethodId) (below : List Frame) (meth : Method) (c : Code) (G : EG) (h : Hp) (k0 : Nat) (x1 : Int32) (res : Int32) (k9 n9 : Nat) (H : Heap) (locs : List Loc) (g : JFrame) : Prop := W p l e (headSpec (ws_ yJ4_charAt cJ4_charAt 2 (some .char)) ({ frames := 2, cells := 0, slots := 0, locals := 43 } : Room)).room s m ([.ref (G.2.2.2 (20 + k0)), .int x1] : List Value).toArray below meth c H locs k9 n9 (MQ below (ep_Qi G ep_cl h res) ([.ref (G.2.2.2 (20 + k0)), .int x1] : List Value).toArray s 0 0 (ep_A G)) g
set_option maxHeartbeats 4000000 in
theorem metJ4_charAt (l : Launch) (G : EG) (h : Hp) (k0 : Nat) (x1 : Int32) {res : Int32} (hf : fJ4_charAt k0 x1 = some res) : Met l yJ4_charAt (ws_ yJ4_charAt cJ4_charAt 2 (some .char)) ({ frames := 2, cells := 0, slots := 0, locals := 43 } : Room) (ep_Pc G ep_cl h [.ref (G.2.2.2 (20 + k0)), .int x1]) (ep_Qi G ep_cl h res) 0 0 (ep_A G) := by
  refine Met.ofW (cc := cJ4_charAt) (maxL := 2) (ret := (some .char)) (by decide) rfl ?_
  intro p e s m args below meth c s₁ B hml hv
  obtain ⟨rfl, hR, hK, hZ⟩ := hv
  have hx := B.exec
  have hb := B.bytes
  have hr := B.returns
  have hlocks := B.notSynchronized
  have hts := atoms_spec (ws := (ws_ yJ4_charAt cJ4_charAt 2 (some .char))) B.pre
  have hts : ∀ w ∈ lw_all, w.before _ s = true := fun w h => hts w (List.mem_cons_of_mem _ h)
  have hown : s.vm.findClass RJ4 = some m.cls := findClass_of_methodNamed B.named
  have hw : ep_W G ep_cl h s s.heap [] := ⟨hR, va_S.rf⟩
  have hl := lv_entry ([.ref (G.2.2.2 (20 + k0)), .int x1]) (n := 2) (Nat.le_of_ble_eq_true rfl)
  rw [lg_entry_eq]
  generalize (lg_sl ([.ref (G.2.2.2 (20 + k0)), .int x1]) ++ List.replicate (2 - (lg_sl ([.ref (G.2.2.2 (20 + k0)), .int x1])).length) Slot.unset).toArray = ls at hl ⊢
  have hl : lv_has ls 2 [(0, .ref (G.2.2.2 (20 + k0))), (1, .int x1)] := hl
  unfold fJ4_charAt at hf
  show wJ4_charAt p l e s m below meth c G h k0 x1 res 0 0 s.heap ([]) (F0 m 0 ls [])
  refine lv_iload_n hx hb dJ4_charAt_0 rfl (lv_at hl 1 rfl) ?_
  refine lv_aload_n hx hb dJ4_charAt_1 rfl (lv_at hl 0 rfl) ?_
  obtain ⟨v1, ev1, hf⟩ := ob_s hf
  refine ep_slen hx hb hZ hw ev1 dJ4_charAt_2 ?_
  obtain ⟨v2, ev2, hf⟩ := ob_s hf
  refine ep_callv0 (va_runS (As := [.int x1, .int v1]) (rest := []) ⟨hx, hb, hml, hown, hts⟩ (metJ3_checkIndex l G h x1 v1 ev2) (va_cwS 2 hts (lw_S q382 q383 q96 q384) rfl rfl rfl hsJ3_checkIndex ⟨Nat.le_of_ble_eq_true rfl, Nat.le_of_ble_eq_true rfl⟩) (ep_preS hK hZ hw) rfl rfl hl.1 rfl (lv_room (Nat.le_of_ble_eq_true rfl)) dJ4_charAt_3 ⟨Nat.le_of_ble_eq_true rfl, Nat.le_of_ble_eq_true rfl⟩) hw (fun H locs hw => ?_)
  refine lv_aload_n hx hb dJ4_charAt_6 rfl (lv_at hl 0 rfl) ?_
  refine lv_iload_n hx hb dJ4_charAt_7 rfl (lv_at hl 1 rfl) ?_
  obtain ⟨v3, ev3, hf⟩ := ob_s hf
  refine ep_sbyt hx hb hZ hw ev3 dJ4_charAt_8 ?_
  refine lv_sipush (v := iI 255) hx hb dJ4_charAt_9 (by decide) ?_
  refine lv_iand hx hb dJ4_charAt_12 ?_
  refine lv_i2c (v := ((v3 &&& (iI 255)).toUInt32 % 65536).toInt32) hx hb dJ4_charAt_13 rfl ?_
  obtain ⟨z, ez, hf⟩ := ob_s hf
  obtain ⟨hz, hn⟩ := ckC_s ez
  rw [hz] at hf
  exact ep_retzR hx hb hr hn hlocks hw hf dJ4_charAt_14
theorem hdJ3_charAt : yJ3_charAt.cls = RJ3 ∧ yJ3_charAt.cls ≠ "java/lang/invoke/MethodHandle" ∧ yJ3_charAt.cls ≠ "java/lang/invoke/VarHandle" ∧ (parseMethodDescriptor yJ3_charAt.desc).map (fun d => d.parameters.length) = some 1 := by decide +kernel
theorem ckS_J3_charAt {k0 : Nat} {x1 : Int32} {res : Int32} (hf : fJ3_charAt k0 x1 = some res) : k0 < 7 := by
  unfold fJ3_charAt at hf
  exact (oi_c hf).1
abbrev wJ3_charAt (p : Program) (l : Launch) (e : Env) (s : State) (m : MethodId) (below : List Frame) (meth : Method) (c : Code) (G : EG) (h : Hp) (k0 : Nat) (x1 : Int32) (res : Int32) (k9 n9 : Nat) (H : Heap) (locs : List Loc) (g : JFrame) : Prop := W p l e (headSpec (ws_ yJ3_charAt cJ3_charAt 2 (some .char)) ({ frames := 3, cells := 0, slots := 0, locals := 64 } : Room)).room s m ([.ref (G.2.2.2 (10 + k0)), .int x1] : List Value).toArray below meth c H locs k9 n9 (MQ below (ep_Qi G ep_cl h res) ([.ref (G.2.2.2 (10 + k0)), .int x1] : List Value).toArray s 0 0 (ep_A G)) g
set_option maxHeartbeats 4000000 in
theorem metJ3_charAt (l : Launch) (G : EG) (h : Hp) (k0 : Nat) (x1 : Int32) {res : Int32} (hf : fJ3_charAt k0 x1 = some res) : Met l yJ3_charAt (ws_ yJ3_charAt cJ3_charAt 2 (some .char)) ({ frames := 3, cells := 0, slots := 0, locals := 64 } : Room) (ep_Pc G ep_cl h [.ref (G.2.2.2 (10 + k0)), .int x1]) (ep_Qi G ep_cl h res) 0 0 (ep_A G) := by
  refine Met.ofW (cc := cJ3_charAt) (maxL := 2) (ret := (some .char)) (by decide) rfl ?_
  intro p e s m args below meth c s₁ B hml hv
  obtain ⟨rfl, hR, hK, hZ⟩ := hv
  have hx := B.exec
  have hb := B.bytes
  have hr := B.returns
  have hlocks := B.notSynchronized
  have hts := atoms_spec (ws := (ws_ yJ3_charAt cJ3_charAt 2 (some .char))) B.pre
  have hts : ∀ w ∈ lw_all, w.before _ s = true := fun w h => hts w (List.mem_cons_of_mem _ h)
  have hown : s.vm.findClass RJ3 = some m.cls := findClass_of_methodNamed B.named
  have hw : ep_W G ep_cl h s s.heap [] := ⟨hR, va_S.rf⟩
  have hl := lv_entry ([.ref (G.2.2.2 (10 + k0)), .int x1]) (n := 2) (Nat.le_of_ble_eq_true rfl)
  rw [lg_entry_eq]
  generalize (lg_sl ([.ref (G.2.2.2 (10 + k0)), .int x1]) ++ List.replicate (2 - (lg_sl ([.ref (G.2.2.2 (10 + k0)), .int x1])).length) Slot.unset).toArray = ls at hl ⊢
  have hl : lv_has ls 2 [(0, .ref (G.2.2.2 (10 + k0))), (1, .int x1)] := hl
  unfold fJ3_charAt at hf
  have hf := (oi_c hf).2
  show wJ3_charAt p l e s m below meth c G h k0 x1 res 0 0 s.heap ([]) (F0 m 0 ls [])
  refine lv_aload_n hx hb dJ3_charAt_0 rfl (lv_at hl 0 rfl) ?_
  obtain ⟨v1, ev1, hf⟩ := ob_s hf
  refine ep_calli0 (va_runV (As := []) (rest := []) ⟨hx, hb, hml, hown, hts⟩ (metJ3_isLatin1 l G h k0 ev1) (cwV 0 hts (lw_V q375 q376 q377 q96 q378) rfl rfl rfl hdJ3_isLatin1 ⟨Nat.le_of_ble_eq_true rfl, Nat.le_of_ble_eq_true rfl⟩) (ep_preK (ckS_J3_isLatin1 ev1) hK hZ hw) rfl rfl hl.1 rfl (lv_room (Nat.le_of_ble_eq_true rfl)) dJ3_charAt_1 ⟨Nat.le_of_ble_eq_true rfl, Nat.le_of_ble_eq_true rfl⟩) hw (fun H locs hw => ?_)
  refine lv_if_eq (tgt := 16) hx hb dJ3_charAt_4 (by decide) (fun c2 => ?_) (fun c2 => ?_)
  · have hf := oi_t hf c2
    cases hf
  · have hf := oi_f hf c2
    refine lv_aload_n hx hb dJ3_charAt_7 rfl (lv_at hl 0 rfl) ?_
    obtain ⟨u3, eu3, hf⟩ := ob_s hf
    refine ep_sval (sCk_s eu3) hx hb hts hown hZ hw q1638 dJ3_charAt_8 ?_
    refine lv_iload_n hx hb dJ3_charAt_11 rfl (lv_at hl 1 rfl) ?_
    obtain ⟨v4, ev4, hf⟩ := ob_s hf
    refine ep_calli0 (va_runS (As := [.ref (G.2.2.2 (20 + k0)), .int x1]) (rest := []) ⟨hx, hb, hml, hown, hts⟩ (metJ4_charAt l G h k0 x1 ev4) (va_cwS 2 hts (lw_S q379 q380 q97 q381) rfl rfl rfl hsJ4_charAt ⟨Nat.le_of_ble_eq_true rfl, Nat.le_of_ble_eq_true rfl⟩) (ep_preS hK hZ hw) rfl rfl hl.1 rfl (lv_room (Nat.le_of_ble_eq_true rfl)) dJ3_charAt_12 ⟨Nat.le_of_ble_eq_true rfl, Nat.le_of_ble_eq_true rfl⟩) hw (fun H locs hw => ?_)
    obtain ⟨z, ez, hf⟩ := ob_s hf
    obtain ⟨hz, hn⟩ := ckC_s ez
    rw [hz] at hf
    exact ep_retzR hx hb hr hn hlocks hw hf dJ3_charAt_15
theorem hdX5_isWord : yX5_isWord.cls = RX5 ∧ yX5_isWord.cls ≠ "java/lang/invoke/MethodHandle" ∧ yX5_isWord.cls ≠ "java/lang/invoke/VarHandle" ∧ (parseMethodDescriptor yX5_isWord.desc).map (fun d => d.parameters.length) = some 1 := by decide +kernel
theorem ckX5_isWord {h : Hp} {a0 : Nat} {k1 : Nat} {res : Int32} (hf : fX5_isWord h a0 k1 = some res) : ep_cls h a0 = some 5 := by
  unfold fX5_isWord at hf
  exact (oi_c hf).1
abbrev wX5_isWord (p : Program) (l : Launch) (e : Env) (s : State) (m : MethodId) (below : List Frame) (meth : Method) (c : Code) (G : EG) (h : Hp) (a0 : Nat) (k1 : Nat) (res : Int32) (k9 n9 : Nat) (H : Heap) (locs : List Loc) (g : JFrame) : Prop := W p l e (headSpec (ws_ yX5_isWord cX5_isWord 4 (some .boolean)) ({ frames := 4, cells := 0, slots := 0, locals := 85 } : Room)).room s m ([.ref a0, .ref (G.2.2.2 (10 + k1))] : List Value).toArray below meth c H locs k9 n9 (MQ below (ep_Qi G ep_cl h res) ([.ref a0, .ref (G.2.2.2 (10 + k1))] : List Value).toArray s 0 0 (ep_A G)) g
set_option maxHeartbeats 4000000 in
theorem metX5_isWord (l : Launch) (G : EG) (h : Hp) (a0 : Nat) (k1 : Nat) {res : Int32} (hf : fX5_isWord h a0 k1 = some res) : Met l yX5_isWord (ws_ yX5_isWord cX5_isWord 4 (some .boolean)) ({ frames := 4, cells := 0, slots := 0, locals := 85 } : Room) (ep_Pc G ep_cl h [.ref a0, .ref (G.2.2.2 (10 + k1))]) (ep_Qi G ep_cl h res) 0 0 (ep_A G) := by
  refine Met.ofW (cc := cX5_isWord) (maxL := 4) (ret := (some .boolean)) (by decide) rfl ?_
  intro p e s m args below meth c s₁ B hml hv
  obtain ⟨rfl, hR, hK, hZ⟩ := hv
  have hx := B.exec
  have hb := B.bytes
  have hr := B.returns
  have hlocks := B.notSynchronized
  have hts := atoms_spec (ws := (ws_ yX5_isWord cX5_isWord 4 (some .boolean))) B.pre
  have hts : ∀ w ∈ lw_all, w.before _ s = true := fun w h => hts w (List.mem_cons_of_mem _ h)
  have hown : s.vm.findClass RX5 = some m.cls := findClass_of_methodNamed B.named
  have hw : ep_W G ep_cl h s s.heap [] := ⟨hR, va_S.rf⟩
  have hl := lv_entry ([.ref a0, .ref (G.2.2.2 (10 + k1))]) (n := 4) (Nat.le_of_ble_eq_true rfl)
  rw [lg_entry_eq]
  generalize (lg_sl ([.ref a0, .ref (G.2.2.2 (10 + k1))]) ++ List.replicate (4 - (lg_sl ([.ref a0, .ref (G.2.2.2 (10 + k1))])).length) Slot.unset).toArray = ls at hl ⊢
  have hl : lv_has ls 4 [(0, .ref a0), (1, .ref (G.2.2.2 (10 + k1)))] := hl
  unfold fX5_isWord at hf
  have hf := (oi_c hf).2
  show wX5_isWord p l e s m below meth c G h a0 k1 res 0 0 s.heap ([]) (F0 m 0 ls [])
  refine lv_aload_n hx hb dX5_isWord_0 rfl (lv_at hl 0 rfl) ?_
  obtain ⟨v1, ev1, hf⟩ := ob_s hf
  refine ep_get (C := RX5) (T := TX5) (N := 11) (ci := 5) hx hb hts in_X5 hown hK hw rfl 9 (by decide) q322 (gI_f ev1) dX5_isWord_1 ?_
  refine lv_iconst (v := iI 1) hx hb dX5_isWord_4 rfl ?_
  obtain ⟨ox2, ho2, hk2⟩ := orL_s hf
  have hT2 : ∀ r, ox2 = .inl r → some r = some res := fun r eo => (by have e := orL_1 hk2 eo; exact e)
  have hJ2 : ∀ o2, ox2 = .inr o2 → ∀ (H : Heap) (locs : List Loc) (ls : Array Slot), ep_W G ep_cl h s H locs → lv_has ls 4 [(0, .ref a0), (1, .ref (G.2.2.2 (10 + k1)))] → wX5_isWord p l e s m below meth c G h a0 k1 res 0 0 H locs (F0 m 28 ls []) := by
    intro o2 eo H locs ls hw hl
    have hf := orL_2 hk2 eo
    refine lv_iconst (v := iI 0) hx hb dX5_isWord_28 rfl ?_
    refine lv_istore_n (lv' := [(2, .int (iI 0)), (0, .ref a0), (1, .ref (G.2.2.2 (10 + k1)))]) hx hb dX5_isWord_29 rfl hl (by decide) rfl (fun ls hl => ?_)
    refine lv_iconst (v := iI 0) hx hb dX5_isWord_30 rfl ?_
    refine lv_istore_n (lv' := [(3, .int (iI 0)), (2, .int (iI 0)), (0, .ref a0), (1, .ref (G.2.2.2 (10 + k1)))]) hx hb dX5_isWord_31 rfl hl (by decide) rfl (fun ls hl => ?_)
    obtain ⟨o17, ho17, hf⟩ := ob_s hf
    have hJ17 : ∀ (H : Heap) (locs : List Loc) (ls : Array Slot), ep_W G ep_cl h s H locs → lv_has ls 4 [(2, .int o17)] → wX5_isWord p l e s m below meth c G h a0 k1 res 0 0 H locs (F0 m 74 ls []) := by
      intro H locs ls hw hl
      refine lv_iload_n hx hb dX5_isWord_74 rfl (lv_at hl 0 rfl) ?_
      obtain ⟨z, ez, hf⟩ := ob_s hf
      obtain ⟨hz, hn⟩ := ckZ_s ez
      rw [hz] at hf
      exact ep_retzR hx hb hr hn hlocks hw hf dX5_isWord_75
    have hL17 : ∀ (fu : Nat) (x2 : Int32) (x3 : Int32), fX5_isWord_L32 h a0 k1 fu x2 x3 = some o17 → ∀ (H : Heap) (locs : List Loc) (ls : Array Slot), ep_W G ep_cl h s H locs → lv_has ls 4 [(0, .ref a0), (1, .ref (G.2.2.2 (10 + k1))), (2, .int x2), (3, .int x3)] → wX5_isWord p l e s m below meth c G h a0 k1 res 0 0 H locs (F0 m 32 ls []) := by
      intro fu
      induction fu with
      | zero => intro x2 x3 ho17; cases ho17
      | succ fu ih17 =>
        intro x2 x3 ho17 H locs ls hw hl
        rw [fX5_isWord_L32] at ho17
        refine lv_iload_n hx hb dX5_isWord_32 rfl (lv_at hl 3 rfl) ?_
        refine lv_aload_n hx hb dX5_isWord_33 rfl (lv_at hl 1 rfl) ?_
        obtain ⟨v18, ev18, ho17⟩ := ob_s ho17
        refine ep_calli0 (va_runV (As := []) (rest := [.int x3]) ⟨hx, hb, hml, hown, hts⟩ (metJ3_length l G h k1 ev18) (cwV 0 hts (lw_V q361 q362 q363 q96 q364) rfl rfl rfl hdJ3_length ⟨Nat.le_of_ble_eq_true rfl, Nat.le_of_ble_eq_true rfl⟩) (ep_preK (ckS_J3_length ev18) hK hZ hw) rfl rfl hl.1 rfl (lv_room (Nat.le_of_ble_eq_true rfl)) dX5_isWord_34 ⟨Nat.le_of_ble_eq_true rfl, Nat.le_of_ble_eq_true rfl⟩) hw (fun H locs hw => ?_)
        refine lv_icmp_ge (tgt := 74) hx hb dX5_isWord_37 (by decide) (fun c19 => ?_) (fun c19 => ?_)
        · have ho17 := oi_t ho17 c19
          obtain rfl := Option.some.inj ho17
          exact hJ17 _ _ _ hw (lv_sub hl [2] rfl)
        · have ho17 := oi_f ho17 c19
          refine lv_iload_n hx hb dX5_isWord_40 rfl (lv_at hl 2 rfl) ?_
          refine lv_if_eq (tgt := 74) hx hb dX5_isWord_41 (by decide) (fun c20 => ?_) (fun c20 => ?_)
          · have ho17 := oi_t ho17 c20
            obtain rfl := Option.some.inj ho17
            exact hJ17 _ _ _ hw (lv_sub hl [2] rfl)
          · have ho17 := oi_f ho17 c20
            refine lv_aload_n hx hb dX5_isWord_44 rfl (lv_at hl 1 rfl) ?_
            refine lv_iload_n hx hb dX5_isWord_45 rfl (lv_at hl 3 rfl) ?_
            obtain ⟨v21, ev21, ho17⟩ := ob_s ho17
            refine ep_calli0 (va_runV (As := [.int x3]) (rest := []) ⟨hx, hb, hml, hown, hts⟩ (metJ3_charAt l G h k1 x3 ev21) (cwV 1 hts (lw_V q371 q372 q373 q96 q374) rfl rfl rfl hdJ3_charAt ⟨Nat.le_of_ble_eq_true rfl, Nat.le_of_ble_eq_true rfl⟩) (ep_preK (ckS_J3_charAt ev21) hK hZ hw) rfl rfl hl.1 rfl (lv_room (Nat.le_of_ble_eq_true rfl)) dX5_isWord_46 ⟨Nat.le_of_ble_eq_true rfl, Nat.le_of_ble_eq_true rfl⟩) hw (fun H locs hw => ?_)
            refine lv_aload_n hx hb dX5_isWord_49 rfl (lv_at hl 0 rfl) ?_
            refine lv_aload_n hx hb dX5_isWord_50 rfl (lv_at hl 0 rfl) ?_
            obtain ⟨v22, ev22, ho17⟩ := ob_s ho17
            refine ep_get (C := RX5) (T := TX5) (N := 11) (ci := 5) hx hb hts in_X5 hown hK hw rfl 7 (by decide) q320 (gI_f ev22) dX5_isWord_51 ?_
            refine lv_iload_n hx hb dX5_isWord_54 rfl (lv_at hl 3 rfl) ?_
            refine lv_iadd hx hb dX5_isWord_55 ?_
            obtain ⟨v23, ev23, ho17⟩ := ob_s ho17
            refine ep_calli0 (va_runV (As := [.int (v22 + x3)]) (rest := [.int v21]) ⟨hx, hb, hml, hown, hts⟩ (metX5_at l G h a0 (v22 + x3) ev23) (cwV 1 hts (lw_V q206 q208 qs1 q91 q209) rfl rfl rfl hdX5_at ⟨Nat.le_of_ble_eq_true rfl, Nat.le_of_ble_eq_true rfl⟩) (ep_preV hK hZ hw rfl (ckX5_at ev23)) rfl rfl hl.1 rfl (lv_room (Nat.le_of_ble_eq_true rfl)) dX5_isWord_56 ⟨Nat.le_of_ble_eq_true rfl, Nat.le_of_ble_eq_true rfl⟩) hw (fun H locs hw => ?_)
            have hJ24 : wX5_isWord p l e s m below meth c G h a0 k1 res 0 0 H locs (F0 m 67 ls [.int (if v21 = v23 then iI 1 else iI 0)]) := by
              refine lv_istore_n (lv' := [(2, .int (if v21 = v23 then iI 1 else iI 0)), (0, .ref a0), (1, .ref (G.2.2.2 (10 + k1))), (3, .int x3)]) hx hb dX5_isWord_67 rfl hl (by decide) rfl (fun ls hl => ?_)
              refine lv_iinc (v := (x3 + iI 1)) (lv' := [(3, .int (x3 + iI 1)), (2, .int (if v21 = v23 then iI 1 else iI 0)), (0, .ref a0), (1, .ref (G.2.2.2 (10 + k1)))]) hx hb dX5_isWord_68 hl (k := 3) rfl rfl (by decide) rfl (fun ls hl => ?_)
              refine lv_goto (tgt := 32) hx hb dX5_isWord_71 (by decide) ?_
              exact ih17 _ _ ho17 _ _ _ hw (lv_sub hl [2, 3, 1, 0] rfl)
            refine lv_icmp_ne (tgt := 66) hx hb dX5_isWord_59 (by decide) (fun c25 => ?_) (fun c25 => ?_)
            · refine lv_iconst (v := iI 0) hx hb dX5_isWord_66 rfl ?_
              rw [if_neg c25] at hJ24
              exact hJ24
            · refine lv_iconst (v := iI 1) hx hb dX5_isWord_62 rfl ?_
              refine lv_goto (tgt := 67) hx hb dX5_isWord_63 (by decide) ?_
              rw [if_pos c25] at hJ24
              exact hJ24
    exact hL17 FUEL _ _ ho17 _ _ _ hw (lv_sub hl [2, 3, 1, 0] rfl)
  refine lv_icmp_ne (tgt := 28) hx hb dX5_isWord_5 (by decide) (fun c3 => ?_) (fun c3 => ?_)
  · have ho2 := oi_f ho2 c3
    exact hJ2 _ (Option.some.inj ho2).symm _ _ _ hw (lv_sub hl [0, 1] rfl)
  · have ho2 := oi_t ho2 c3
    refine lv_aload_n hx hb dX5_isWord_8 rfl (lv_at hl 1 rfl) ?_
    obtain ⟨v4, ev4, ho2⟩ := ob_s ho2
    refine ep_calli0 (va_runV (As := []) (rest := []) ⟨hx, hb, hml, hown, hts⟩ (metJ3_length l G h k1 ev4) (cwV 0 hts (lw_V q361 q362 q363 q96 q364) rfl rfl rfl hdJ3_length ⟨Nat.le_of_ble_eq_true rfl, Nat.le_of_ble_eq_true rfl⟩) (ep_preK (ckS_J3_length ev4) hK hZ hw) rfl rfl hl.1 rfl (lv_room (Nat.le_of_ble_eq_true rfl)) dX5_isWord_9 ⟨Nat.le_of_ble_eq_true rfl, Nat.le_of_ble_eq_true rfl⟩) hw (fun H locs hw => ?_)
    refine lv_aload_n hx hb dX5_isWord_12 rfl (lv_at hl 0 rfl) ?_
    obtain ⟨v5, ev5, ho2⟩ := ob_s ho2
    refine ep_get (C := RX5) (T := TX5) (N := 11) (ci := 5) hx hb hts in_X5 hown hK hw rfl 8 (by decide) q321 (gI_f ev5) dX5_isWord_13 ?_
    refine lv_aload_n hx hb dX5_isWord_16 rfl (lv_at hl 0 rfl) ?_
    obtain ⟨v6, ev6, ho2⟩ := ob_s ho2
    refine ep_get (C := RX5) (T := TX5) (N := 11) (ci := 5) hx hb hts in_X5 hown hK hw rfl 7 (by decide) q320 (gI_f ev6) dX5_isWord_17 ?_
    refine lv_isub hx hb dX5_isWord_20 ?_
    refine lv_icmp_ne (tgt := 28) hx hb dX5_isWord_21 (by decide) (fun c7 => ?_) (fun c7 => ?_)
    · have ho2 := oi_f ho2 c7
      exact hJ2 _ (Option.some.inj ho2).symm _ _ _ hw (lv_sub hl [0, 1] rfl)
    · have ho2 := oi_t ho2 c7
      refine lv_iconst (v := iI 1) hx hb dX5_isWord_24 rfl ?_
      refine lv_goto (tgt := 29) hx hb dX5_isWord_25 (by decide) ?_
      refine lv_istore_n (lv' := [(2, .int (iI 1)), (0, .ref a0), (1, .ref (G.2.2.2 (10 + k1)))]) hx hb dX5_isWord_29 rfl hl (by decide) rfl (fun ls hl => ?_)
      refine lv_iconst (v := iI 0) hx hb dX5_isWord_30 rfl ?_
      refine lv_istore_n (lv' := [(3, .int (iI 0)), (2, .int (iI 1)), (0, .ref a0), (1, .ref (G.2.2.2 (10 + k1)))]) hx hb dX5_isWord_31 rfl hl (by decide) rfl (fun ls hl => ?_)
      obtain ⟨o8, ho8, ho2⟩ := ob_s ho2
      have hJ8 : ∀ (H : Heap) (locs : List Loc) (ls : Array Slot), ep_W G ep_cl h s H locs → lv_has ls 4 [(2, .int o8)] → wX5_isWord p l e s m below meth c G h a0 k1 res 0 0 H locs (F0 m 74 ls []) := by
        intro H locs ls hw hl
        refine lv_iload_n hx hb dX5_isWord_74 rfl (lv_at hl 0 rfl) ?_
        obtain ⟨z, ez, ho2⟩ := ob_s ho2
        obtain ⟨hz, hn⟩ := ckZ_s ez
        rw [hz] at ho2
        exact ep_retzR hx hb hr hn hlocks hw (hT2 _ (Option.some.inj ho2).symm) dX5_isWord_75
      have hL8 : ∀ (fu : Nat) (x2 : Int32) (x3 : Int32), fX5_isWord_L32 h a0 k1 fu x2 x3 = some o8 → ∀ (H : Heap) (locs : List Loc) (ls : Array Slot), ep_W G ep_cl h s H locs → lv_has ls 4 [(0, .ref a0), (1, .ref (G.2.2.2 (10 + k1))), (2, .int x2), (3, .int x3)] → wX5_isWord p l e s m below meth c G h a0 k1 res 0 0 H locs (F0 m 32 ls []) := by
        intro fu
        induction fu with
        | zero => intro x2 x3 ho8; cases ho8
        | succ fu ih8 =>
          intro x2 x3 ho8 H locs ls hw hl
          rw [fX5_isWord_L32] at ho8
          refine lv_iload_n hx hb dX5_isWord_32 rfl (lv_at hl 3 rfl) ?_
          refine lv_aload_n hx hb dX5_isWord_33 rfl (lv_at hl 1 rfl) ?_
          obtain ⟨v9, ev9, ho8⟩ := ob_s ho8
          refine ep_calli0 (va_runV (As := []) (rest := [.int x3]) ⟨hx, hb, hml, hown, hts⟩ (metJ3_length l G h k1 ev9) (cwV 0 hts (lw_V q361 q362 q363 q96 q364) rfl rfl rfl hdJ3_length ⟨Nat.le_of_ble_eq_true rfl, Nat.le_of_ble_eq_true rfl⟩) (ep_preK (ckS_J3_length ev9) hK hZ hw) rfl rfl hl.1 rfl (lv_room (Nat.le_of_ble_eq_true rfl)) dX5_isWord_34 ⟨Nat.le_of_ble_eq_true rfl, Nat.le_of_ble_eq_true rfl⟩) hw (fun H locs hw => ?_)
          refine lv_icmp_ge (tgt := 74) hx hb dX5_isWord_37 (by decide) (fun c10 => ?_) (fun c10 => ?_)
          · have ho8 := oi_t ho8 c10
            obtain rfl := Option.some.inj ho8
            exact hJ8 _ _ _ hw (lv_sub hl [2] rfl)
          · have ho8 := oi_f ho8 c10
            refine lv_iload_n hx hb dX5_isWord_40 rfl (lv_at hl 2 rfl) ?_
            refine lv_if_eq (tgt := 74) hx hb dX5_isWord_41 (by decide) (fun c11 => ?_) (fun c11 => ?_)
            · have ho8 := oi_t ho8 c11
              obtain rfl := Option.some.inj ho8
              exact hJ8 _ _ _ hw (lv_sub hl [2] rfl)
            · have ho8 := oi_f ho8 c11
              refine lv_aload_n hx hb dX5_isWord_44 rfl (lv_at hl 1 rfl) ?_
              refine lv_iload_n hx hb dX5_isWord_45 rfl (lv_at hl 3 rfl) ?_
              obtain ⟨v12, ev12, ho8⟩ := ob_s ho8
              refine ep_calli0 (va_runV (As := [.int x3]) (rest := []) ⟨hx, hb, hml, hown, hts⟩ (metJ3_charAt l G h k1 x3 ev12) (cwV 1 hts (lw_V q371 q372 q373 q96 q374) rfl rfl rfl hdJ3_charAt ⟨Nat.le_of_ble_eq_true rfl, Nat.le_of_ble_eq_true rfl⟩) (ep_preK (ckS_J3_charAt ev12) hK hZ hw) rfl rfl hl.1 rfl (lv_room (Nat.le_of_ble_eq_true rfl)) dX5_isWord_46 ⟨Nat.le_of_ble_eq_true rfl, Nat.le_of_ble_eq_true rfl⟩) hw (fun H locs hw => ?_)
              refine lv_aload_n hx hb dX5_isWord_49 rfl (lv_at hl 0 rfl) ?_
              refine lv_aload_n hx hb dX5_isWord_50 rfl (lv_at hl 0 rfl) ?_
              obtain ⟨v13, ev13, ho8⟩ := ob_s ho8
              refine ep_get (C := RX5) (T := TX5) (N := 11) (ci := 5) hx hb hts in_X5 hown hK hw rfl 7 (by decide) q320 (gI_f ev13) dX5_isWord_51 ?_
              refine lv_iload_n hx hb dX5_isWord_54 rfl (lv_at hl 3 rfl) ?_
              refine lv_iadd hx hb dX5_isWord_55 ?_
              obtain ⟨v14, ev14, ho8⟩ := ob_s ho8
              refine ep_calli0 (va_runV (As := [.int (v13 + x3)]) (rest := [.int v12]) ⟨hx, hb, hml, hown, hts⟩ (metX5_at l G h a0 (v13 + x3) ev14) (cwV 1 hts (lw_V q206 q208 qs1 q91 q209) rfl rfl rfl hdX5_at ⟨Nat.le_of_ble_eq_true rfl, Nat.le_of_ble_eq_true rfl⟩) (ep_preV hK hZ hw rfl (ckX5_at ev14)) rfl rfl hl.1 rfl (lv_room (Nat.le_of_ble_eq_true rfl)) dX5_isWord_56 ⟨Nat.le_of_ble_eq_true rfl, Nat.le_of_ble_eq_true rfl⟩) hw (fun H locs hw => ?_)
              have hJ15 : wX5_isWord p l e s m below meth c G h a0 k1 res 0 0 H locs (F0 m 67 ls [.int (if v12 = v14 then iI 1 else iI 0)]) := by
                refine lv_istore_n (lv' := [(2, .int (if v12 = v14 then iI 1 else iI 0)), (0, .ref a0), (1, .ref (G.2.2.2 (10 + k1))), (3, .int x3)]) hx hb dX5_isWord_67 rfl hl (by decide) rfl (fun ls hl => ?_)
                refine lv_iinc (v := (x3 + iI 1)) (lv' := [(3, .int (x3 + iI 1)), (2, .int (if v12 = v14 then iI 1 else iI 0)), (0, .ref a0), (1, .ref (G.2.2.2 (10 + k1)))]) hx hb dX5_isWord_68 hl (k := 3) rfl rfl (by decide) rfl (fun ls hl => ?_)
                refine lv_goto (tgt := 32) hx hb dX5_isWord_71 (by decide) ?_
                exact ih8 _ _ ho8 _ _ _ hw (lv_sub hl [2, 3, 1, 0] rfl)
              refine lv_icmp_ne (tgt := 66) hx hb dX5_isWord_59 (by decide) (fun c16 => ?_) (fun c16 => ?_)
              · refine lv_iconst (v := iI 0) hx hb dX5_isWord_66 rfl ?_
                rw [if_neg c16] at hJ15
                exact hJ15
              · refine lv_iconst (v := iI 1) hx hb dX5_isWord_62 rfl ?_
                refine lv_goto (tgt := 67) hx hb dX5_isWord_63 (by decide) ?_
                rw [if_pos c16] at hJ15
                exact hJ15
      exact hL8 FUEL _ _ ho8 _ _ _ hw (lv_sub hl [2, 3, 1, 0] rfl)
theorem hdX5_wordInto : yX5_wordInto.cls = RX5 ∧ yX5_wordInto.cls ≠ "java/lang/invoke/MethodHandle" ∧ yX5_wordInto.cls ≠ "java/lang/invoke/VarHandle" ∧ (parseMethodDescriptor yX5_wordInto.desc).map (fun d => d.parameters.length) = some 1 := by decide +kernel
theorem ckX5_wordInto {h : Hp} {a0 : Nat} {a1 : Nat} {res : Thr ⊕ (Int32 × Hp)} (hf : fX5_wordInto h a0 a1 = some res) : ep_cls h a0 = some 5 := by
  unfold fX5_wordInto at hf
  exact (oi_c hf).1
abbrev wX5_wordInto (p : Program) (l : Launch) (e : Env) (s : State) (m : MethodId) (below : List Frame) (meth : Method) (c : Code) (G : EG) (h : Hp) (a0 : Nat) (a1 : Nat) (res : Int32 × Hp) (k9 n9 : Nat) (H : Heap) (locs : List Loc) (g : JFrame) : Prop := W p l e (headSpec (ws_ yX5_wordInto cX5_wordInto 3 (some .int)) ({ frames := 7, cells := 0, slots := 0, locals := 157 } : Room)).room s m ([.ref a0, .ref a1] : List Value).toArray below meth c H locs k9 n9 (MQ below (ep_Qi G ep_cl res.2 res.1) ([.ref a0, .ref a1] : List Value).toArray s 0 0 (ep_A G)) g
set_option maxHeartbeats 4000000 in
theorem metX5_wordInto (l : Launch) (G : EG) (h : Hp) (a0 : Nat) (a1 : Nat) {res : Int32 × Hp} (hf : fX5_wordInto h a0 a1 = some (.inr res)) : Met l yX5_wordInto (ws_ yX5_wordInto cX5_wordInto 3 (some .int)) ({ frames := 7, cells := 0, slots := 0, locals := 157 } : Room) (ep_Pc G ep_cl h [.ref a0, .ref a1]) (ep_Qi G ep_cl res.2 res.1) 0 0 (ep_A G) := by
  refine Met.ofW (cc := cX5_wordInto) (maxL := 3) (ret := (some .int)) (by decide) rfl ?_
  intro p e s m args below meth c s₁ B hml hv
  obtain ⟨rfl, hR, hK, hZ⟩ := hv
  have hx := B.exec
  have hb := B.bytes
  have hr := B.returns
  have hlocks := B.notSynchronized
  have hts := atoms_spec (ws := (ws_ yX5_wordInto cX5_wordInto 3 (some .int))) B.pre
  have hts : ∀ w ∈ lw_all, w.before _ s = true := fun w h => hts w (List.mem_cons_of_mem _ h)
  have hown : s.vm.findClass RX5 = some m.cls := findClass_of_methodNamed B.named
  have hw : ep_W G ep_cl h s s.heap [] := ⟨hR, va_S.rf⟩
  have hl := lv_entry ([.ref a0, .ref a1]) (n := 3) (Nat.le_of_ble_eq_true rfl)
  rw [lg_entry_eq]
  generalize (lg_sl ([.ref a0, .ref a1]) ++ List.replicate (3 - (lg_sl ([.ref a0, .ref a1])).length) Slot.unset).toArray = ls at hl ⊢
  have hl : lv_has ls 3 [(0, .ref a0), (1, .ref a1)] := hl
  unfold fX5_wordInto at hf
  have hf := (oi_c hf).2
  show wX5_wordInto p l e s m below meth c G h a0 a1 res 0 0 s.heap ([]) (F0 m 0 ls [])
  refine lv_aload_n hx hb dX5_wordInto_0 rfl (lv_at hl 0 rfl) ?_
  refine lv_aload_n hx hb dX5_wordInto_1 rfl (lv_at hl 0 rfl) ?_
  obtain ⟨v1, ev1, hf⟩ := ob_s hf
  refine ep_get (C := RX5) (T := TX5) (N := 11) (ci := 5) hx hb hts in_X5 hown hK hw rfl 9 (by decide) q322 (gI_f ev1) dX5_wordInto_2 ?_
  refine lv_iconst (v := iI 1) hx hb dX5_wordInto_5 rfl ?_
  have hJ2 : wX5_wordInto p l e s m below meth c G h a0 a1 res 0 0 s.heap ([]) (F0 m 14 ls [.int (if v1 = (iI 1) then iI 1 else iI 0), .ref a0]) := by
    refine lv_iconst (v := iI 2) hx hb dX5_wordInto_14 rfl ?_
    obtain ⟨zo4, eo4, hko4⟩ := orL_s hf
    rcases zo4 with xo4 | o4
    · have hf := orL_1 hko4 rfl
      cases hf
    have hf := orL_2 hko4 rfl
    refine ep_callv0 (va_runV (As := [.int (if v1 = (iI 1) then iI 1 else iI 0), .int (iI 2)]) (rest := []) ⟨hx, hb, hml, hown, hts⟩ (metX5_must l G h a0 (if v1 = (iI 1) then iI 1 else iI 0) (iI 2) eo4) (cwV 2 hts (lw_V q215 q217 qs2 q91 q218) rfl rfl rfl hdX5_must ⟨Nat.le_of_ble_eq_true rfl, Nat.le_of_ble_eq_true rfl⟩) (ep_preV hK hZ hw rfl (ckX5_must eo4)) rfl rfl hl.1 rfl (lv_room (Nat.le_of_ble_eq_true rfl)) dX5_wordInto_15 ⟨Nat.le_of_ble_eq_true rfl, Nat.le_of_ble_eq_true rfl⟩) hw (fun H locs hw => ?_)
    refine lv_aload_n hx hb dX5_wordInto_18 rfl (lv_at hl 0 rfl) ?_
    refine lv_aload_n hx hb dX5_wordInto_19 rfl (lv_at hl 0 rfl) ?_
    obtain ⟨v5, ev5, hf⟩ := ob_s hf
    refine ep_get (C := RX5) (T := TX5) (N := 11) (ci := 5) hx hb hts in_X5 hown hK hw rfl 8 (by decide) q321 (gI_f ev5) dX5_wordInto_20 ?_
    refine lv_aload_n hx hb dX5_wordInto_23 rfl (lv_at hl 0 rfl) ?_
    obtain ⟨v6, ev6, hf⟩ := ob_s hf
    refine ep_get (C := RX5) (T := TX5) (N := 11) (ci := 5) hx hb hts in_X5 hown hK hw rfl 7 (by decide) q320 (gI_f ev6) dX5_wordInto_24 ?_
    refine lv_isub hx hb dX5_wordInto_27 ?_
    refine lv_iconst (v := iI 5) hx hb dX5_wordInto_28 rfl ?_
    have hJ7 : wX5_wordInto p l e s m below meth c G h a0 a1 res 0 0 H locs (F0 m 37 ls [.int (if (iI 5) < (v5 - v6) then iI 0 else iI 1), .ref a0]) := by
      refine lv_iconst (v := iI 3) hx hb dX5_wordInto_37 rfl ?_
      obtain ⟨zo9, eo9, hko9⟩ := orL_s hf
      rcases zo9 with xo9 | o9
      · have hf := orL_1 hko9 rfl
        cases hf
      have hf := orL_2 hko9 rfl
      refine ep_callv0 (va_runV (As := [.int (if (iI 5) < (v5 - v6) then iI 0 else iI 1), .int (iI 3)]) (rest := []) ⟨hx, hb, hml, hown, hts⟩ (metX5_must l G o4 a0 (if (iI 5) < (v5 - v6) then iI 0 else iI 1) (iI 3) eo9) (cwV 2 hts (lw_V q215 q217 qs2 q91 q218) rfl rfl rfl hdX5_must ⟨Nat.le_of_ble_eq_true rfl, Nat.le_of_ble_eq_true rfl⟩) (ep_preV hK hZ hw rfl (ckX5_must eo9)) rfl rfl hl.1 rfl (lv_room (Nat.le_of_ble_eq_true rfl)) dX5_wordInto_38 ⟨Nat.le_of_ble_eq_true rfl, Nat.le_of_ble_eq_true rfl⟩) hw (fun H locs hw => ?_)
      refine lv_aload_n hx hb dX5_wordInto_41 rfl (lv_at hl 0 rfl) ?_
      obtain ⟨v10, ev10, hf⟩ := ob_s hf
      refine ep_get (C := RX5) (T := TX5) (N := 11) (ci := 5) hx hb hts in_X5 hown hK hw rfl 8 (by decide) q321 (gI_f ev10) dX5_wordInto_42 ?_
      refine lv_aload_n hx hb dX5_wordInto_45 rfl (lv_at hl 0 rfl) ?_
      obtain ⟨v11, ev11, hf⟩ := ob_s hf
      refine ep_get (C := RX5) (T := TX5) (N := 11) (ci := 5) hx hb hts in_X5 hown hK hw rfl 7 (by decide) q320 (gI_f ev11) dX5_wordInto_46 ?_
      refine lv_isub hx hb dX5_wordInto_49 ?_
      refine lv_istore_n (lv' := [(2, .int (v10 - v11)), (0, .ref a0), (1, .ref a1)]) hx hb dX5_wordInto_50 rfl hl (by decide) rfl (fun ls hl => ?_)
      refine lv_aload_n hx hb dX5_wordInto_51 rfl (lv_at hl 1 rfl) ?_
      obtain ⟨r12, er12, hf⟩ := ob_s hf
      refine ep_get (C := RX5) (T := TX5) (N := 11) (ci := 5) hx hb hts in_X5 hown hK hw rfl 0 (by decide) q308 (gR_f er12) dX5_wordInto_52 ?_
      refine lv_aload_n hx hb dX5_wordInto_55 rfl (lv_at hl 1 rfl) ?_
      obtain ⟨v13, ev13, hf⟩ := ob_s hf
      refine ep_get (C := RX5) (T := TX5) (N := 11) (ci := 5) hx hb hts in_X5 hown hK hw rfl 7 (by decide) q320 (gI_f ev13) dX5_wordInto_56 ?_
      refine lv_aload_n hx hb dX5_wordInto_59 rfl (lv_at hl 2 rfl) ?_
      refine lv_iconst (v := iI 0) hx hb dX5_wordInto_60 rfl ?_
      refine lv_iload_n hx hb dX5_wordInto_61 rfl (lv_at hl 0 rfl) ?_
      obtain ⟨h14, eh14, hf⟩ := ob_s hf
      refine ep_copy 1 (by decide) rfl hx hb (hml.trans hl.1.symm) hts hown q417 q128 q127 q90 hK hw eh14 (Nat.le_of_ble_eq_true rfl) (Nat.le_of_ble_eq_true rfl) dX5_wordInto_62 (fun H locs hw => ?_)
      refine lv_aload_n hx hb dX5_wordInto_65 rfl (lv_at hl 1 rfl) ?_
      obtain ⟨zo15, eo15, hko15⟩ := orL_s hf
      rcases zo15 with xo15 | o15
      · have hf := orL_1 hko15 rfl
        cases hf
      have hf := orL_2 hko15 rfl
      refine ep_callv0 (va_runV (As := []) (rest := []) ⟨hx, hb, hml, hown, hts⟩ (metX5_next l G h14 a0 eo15) (cwV 0 hts (lw_V q202 q204 qs0 q91 q205) rfl rfl rfl hdX5_next ⟨Nat.le_of_ble_eq_true rfl, Nat.le_of_ble_eq_true rfl⟩) (ep_preV hK hZ hw rfl (ckX5_next eo15)) rfl rfl hl.1 rfl (lv_room (Nat.le_of_ble_eq_true rfl)) dX5_wordInto_66 ⟨Nat.le_of_ble_eq_true rfl, Nat.le_of_ble_eq_true rfl⟩) hw (fun H locs hw => ?_)
      refine lv_iload_n hx hb dX5_wordInto_69 rfl (lv_at hl 0 rfl) ?_
      exact ep_retiW hx hb hr hlocks hw (sm_r hf) dX5_wordInto_70
    refine lv_icmp_gt (tgt := 36) hx hb dX5_wordInto_29 (by decide) (fun c8 => ?_) (fun c8 => ?_)
    · refine lv_iconst (v := iI 0) hx hb dX5_wordInto_36 rfl ?_
      rw [if_pos c8] at hJ7
      exact hJ7
    · refine lv_iconst (v := iI 1) hx hb dX5_wordInto_32 rfl ?_
      refine lv_goto (tgt := 37) hx hb dX5_wordInto_33 (by decide) ?_
      rw [if_neg c8] at hJ7
      exact hJ7
  refine lv_icmp_ne (tgt := 13) hx hb dX5_wordInto_6 (by decide) (fun c3 => ?_) (fun c3 => ?_)
  · refine lv_iconst (v := iI 0) hx hb dX5_wordInto_13 rfl ?_
    rw [if_neg c3] at hJ2
    exact hJ2
  · refine lv_iconst (v := iI 1) hx hb dX5_wordInto_9 rfl ?_
    refine lv_goto (tgt := 14) hx hb dX5_wordInto_10 (by decide) ?_
    rw [if_pos c3] at hJ2
    exact hJ2
abbrev wTX5_wordInto (p : Program) (l : Launch) (e : Env) (s : State) (m : MethodId) (below : List Frame) (meth : Method) (c : Code) (G : EG) (h : Hp) (a0 : Nat) (a1 : Nat) (res : Thr) (k9 n9 : Nat) (H : Heap) (locs : List Loc) (g : JFrame) : Prop := W p l e (headSpec (ws_ yX5_wordInto cX5_wordInto 3 (some .int)) ({ frames := 7, cells := 1, slots := 8, locals := 157 } : Room)).room s m ([.ref a0, .ref a1] : List Value).toArray below meth c H locs k9 n9 (MQT below (ep_Qt G ep_cl res) ([.ref a0, .ref a1] : List Value).toArray s 1 8 (ep_A G)) g
set_option maxHeartbeats 4000000 in
theorem metTX5_wordInto (l : Launch) (G : EG) (h : Hp) (a0 : Nat) (a1 : Nat) {res : Thr} (hf : fX5_wordInto h a0 a1 = some (.inl res)) : MetT l yX5_wordInto (ws_ yX5_wordInto cX5_wordInto 3 (some .int)) ({ frames := 7, cells := 1, slots := 8, locals := 157 } : Room) (ep_Pc G ep_cl h [.ref a0, .ref a1]) (ep_Qt G ep_cl res) 1 8 (ep_A G) := by
  refine MetT.ofW (cc := cX5_wordInto) (maxL := 3) (ret := (some .int)) (by decide) rfl ?_
  intro p e s m args below meth c s₁ B hml hv
  obtain ⟨rfl, hR, hK, hZ⟩ := hv
  have hx := B.exec
  have hb := B.bytes
  have hr := B.returns
  have hlocks := B.notSynchronized
  have hts := atoms_spec (ws := (ws_ yX5_wordInto cX5_wordInto 3 (some .int))) B.pre
  have hno : c.exceptionTable.toList = [] := by
    have h := B.noHandlers (hts _ List.mem_cons_self)
    simpa using h
  have hts : ∀ w ∈ lw_all, w.before _ s = true := fun w h => hts w (List.mem_cons_of_mem _ h)
  have hown : s.vm.findClass RX5 = some m.cls := findClass_of_methodNamed B.named
  have hw : ep_W G ep_cl h s s.heap [] := ⟨hR, va_S.rf⟩
  have hl := lv_entry ([.ref a0, .ref a1]) (n := 3) (Nat.le_of_ble_eq_true rfl)
  rw [lg_entry_eq]
  generalize (lg_sl ([.ref a0, .ref a1]) ++ List.replicate (3 - (lg_sl ([.ref a0, .ref a1])).length) Slot.unset).toArray = ls at hl ⊢
  have hl : lv_has ls 3 [(0, .ref a0), (1, .ref a1)] := hl
  unfold fX5_wordInto at hf
  have hf := (oi_c hf).2
  show wTX5_wordInto p l e s m below meth c G h a0 a1 res 0 0 s.heap ([]) (F0 m 0 ls [])
  refine lv_aload_n hx hb dX5_wordInto_0 rfl (lv_at hl 0 rfl) ?_
  refine lv_aload_n hx hb dX5_wordInto_1 rfl (lv_at hl 0 rfl) ?_
  obtain ⟨v1, ev1, hf⟩ := ob_s hf
  refine ep_get (C := RX5) (T := TX5) (N := 11) (ci := 5) hx hb hts in_X5 hown hK hw rfl 9 (by decide) q322 (gI_f ev1) dX5_wordInto_2 ?_
  refine lv_iconst (v := iI 1) hx hb dX5_wordInto_5 rfl ?_
  have hJ2 : wTX5_wordInto p l e s m below meth c G h a0 a1 res 0 0 s.heap ([]) (F0 m 14 ls [.int (if v1 = (iI 1) then iI 1 else iI 0), .ref a0]) := by
    refine lv_iconst (v := iI 2) hx hb dX5_wordInto_14 rfl ?_
    obtain ⟨zo4, eo4, hko4⟩ := orL_s hf
    rcases zo4 with xo4 | o4
    · have hf := orL_1 hko4 rfl
      exact ep_outT' hno hlocks (ep_runVT (As := [.int (if v1 = (iI 1) then iI 1 else iI 0), .int (iI 2)]) (rest := []) ⟨hx, hb, hml, hown, hts⟩ (metTX5_must l G h a0 (if v1 = (iI 1) then iI 1 else iI 0) (iI 2) eo4) (cwV 2 hts (lw_V q215 q217 qs2 q91 q218) rfl rfl rfl hdX5_must ⟨Nat.le_of_ble_eq_true rfl, Nat.le_of_ble_eq_true rfl⟩) (ep_preV hK hZ hw rfl (ckX5_must eo4)) rfl rfl hl.1 rfl (lv_room (Nat.le_of_ble_eq_true rfl)) dX5_wordInto_15 ⟨Nat.le_of_ble_eq_true rfl, Nat.le_of_ble_eq_true rfl⟩) hw hf
    have hf := orL_2 hko4 rfl
    refine ep_callv0 (va_runV (As := [.int (if v1 = (iI 1) then iI 1 else iI 0), .int (iI 2)]) (rest := []) ⟨hx, hb, hml, hown, hts⟩ (metX5_must l G h a0 (if v1 = (iI 1) then iI 1 else iI 0) (iI 2) eo4) (cwV 2 hts (lw_V q215 q217 qs2 q91 q218) rfl rfl rfl hdX5_must ⟨Nat.le_of_ble_eq_true rfl, Nat.le_of_ble_eq_true rfl⟩) (ep_preV hK hZ hw rfl (ckX5_must eo4)) rfl rfl hl.1 rfl (lv_room (Nat.le_of_ble_eq_true rfl)) dX5_wordInto_15 ⟨Nat.le_of_ble_eq_true rfl, Nat.le_of_ble_eq_true rfl⟩) hw (fun H locs hw => ?_)
    refine lv_aload_n hx hb dX5_wordInto_18 rfl (lv_at hl 0 rfl) ?_
    refine lv_aload_n hx hb dX5_wordInto_19 rfl (lv_at hl 0 rfl) ?_
    obtain ⟨v5, ev5, hf⟩ := ob_s hf
    refine ep_get (C := RX5) (T := TX5) (N := 11) (ci := 5) hx hb hts in_X5 hown hK hw rfl 8 (by decide) q321 (gI_f ev5) dX5_wordInto_20 ?_
    refine lv_aload_n hx hb dX5_wordInto_23 rfl (lv_at hl 0 rfl) ?_
    obtain ⟨v6, ev6, hf⟩ := ob_s hf
    refine ep_get (C := RX5) (T := TX5) (N := 11) (ci := 5) hx hb hts in_X5 hown hK hw rfl 7 (by decide) q320 (gI_f ev6) dX5_wordInto_24 ?_
    refine lv_isub hx hb dX5_wordInto_27 ?_
    refine lv_iconst (v := iI 5) hx hb dX5_wordInto_28 rfl ?_
    have hJ7 : wTX5_wordInto p l e s m below meth c G h a0 a1 res 0 0 H locs (F0 m 37 ls [.int (if (iI 5) < (v5 - v6) then iI 0 else iI 1), .ref a0]) := by
      refine lv_iconst (v := iI 3) hx hb dX5_wordInto_37 rfl ?_
      obtain ⟨zo9, eo9, hko9⟩ := orL_s hf
      rcases zo9 with xo9 | o9
      · have hf := orL_1 hko9 rfl
        exact ep_outT' hno hlocks (ep_runVT (As := [.int (if (iI 5) < (v5 - v6) then iI 0 else iI 1), .int (iI 3)]) (rest := []) ⟨hx, hb, hml, hown, hts⟩ (metTX5_must l G o4 a0 (if (iI 5) < (v5 - v6) then iI 0 else iI 1) (iI 3) eo9) (cwV 2 hts (lw_V q215 q217 qs2 q91 q218) rfl rfl rfl hdX5_must ⟨Nat.le_of_ble_eq_true rfl, Nat.le_of_ble_eq_true rfl⟩) (ep_preV hK hZ hw rfl (ckX5_must eo9)) rfl rfl hl.1 rfl (lv_room (Nat.le_of_ble_eq_true rfl)) dX5_wordInto_38 ⟨Nat.le_of_ble_eq_true rfl, Nat.le_of_ble_eq_true rfl⟩) hw hf
      have hf := orL_2 hko9 rfl
      refine ep_callv0 (va_runV (As := [.int (if (iI 5) < (v5 - v6) then iI 0 else iI 1), .int (iI 3)]) (rest := []) ⟨hx, hb, hml, hown, hts⟩ (metX5_must l G o4 a0 (if (iI 5) < (v5 - v6) then iI 0 else iI 1) (iI 3) eo9) (cwV 2 hts (lw_V q215 q217 qs2 q91 q218) rfl rfl rfl hdX5_must ⟨Nat.le_of_ble_eq_true rfl, Nat.le_of_ble_eq_true rfl⟩) (ep_preV hK hZ hw rfl (ckX5_must eo9)) rfl rfl hl.1 rfl (lv_room (Nat.le_of_ble_eq_true rfl)) dX5_wordInto_38 ⟨Nat.le_of_ble_eq_true rfl, Nat.le_of_ble_eq_true rfl⟩) hw (fun H locs hw => ?_)
      refine lv_aload_n hx hb dX5_wordInto_41 rfl (lv_at hl 0 rfl) ?_
      obtain ⟨v10, ev10, hf⟩ := ob_s hf
      refine ep_get (C := RX5) (T := TX5) (N := 11) (ci := 5) hx hb hts in_X5 hown hK hw rfl 8 (by decide) q321 (gI_f ev10) dX5_wordInto_42 ?_
      refine lv_aload_n hx hb dX5_wordInto_45 rfl (lv_at hl 0 rfl) ?_
      obtain ⟨v11, ev11, hf⟩ := ob_s hf
      refine ep_get (C := RX5) (T := TX5) (N := 11) (ci := 5) hx hb hts in_X5 hown hK hw rfl 7 (by decide) q320 (gI_f ev11) dX5_wordInto_46 ?_
      refine lv_isub hx hb dX5_wordInto_49 ?_
      refine lv_istore_n (lv' := [(2, .int (v10 - v11)), (0, .ref a0), (1, .ref a1)]) hx hb dX5_wordInto_50 rfl hl (by decide) rfl (fun ls hl => ?_)
      refine lv_aload_n hx hb dX5_wordInto_51 rfl (lv_at hl 1 rfl) ?_
      obtain ⟨r12, er12, hf⟩ := ob_s hf
      refine ep_get (C := RX5) (T := TX5) (N := 11) (ci := 5) hx hb hts in_X5 hown hK hw rfl 0 (by decide) q308 (gR_f er12) dX5_wordInto_52 ?_
      refine lv_aload_n hx hb dX5_wordInto_55 rfl (lv_at hl 1 rfl) ?_
      obtain ⟨v13, ev13, hf⟩ := ob_s hf
      refine ep_get (C := RX5) (T := TX5) (N := 11) (ci := 5) hx hb hts in_X5 hown hK hw rfl 7 (by decide) q320 (gI_f ev13) dX5_wordInto_56 ?_
      refine lv_aload_n hx hb dX5_wordInto_59 rfl (lv_at hl 2 rfl) ?_
      refine lv_iconst (v := iI 0) hx hb dX5_wordInto_60 rfl ?_
      refine lv_iload_n hx hb dX5_wordInto_61 rfl (lv_at hl 0 rfl) ?_
      obtain ⟨h14, eh14, hf⟩ := ob_s hf
      refine ep_copy 1 (by decide) rfl hx hb (hml.trans hl.1.symm) hts hown q417 q128 q127 q90 hK hw eh14 (Nat.le_of_ble_eq_true rfl) (Nat.le_of_ble_eq_true rfl) dX5_wordInto_62 (fun H locs hw => ?_)
      refine lv_aload_n hx hb dX5_wordInto_65 rfl (lv_at hl 1 rfl) ?_
      obtain ⟨zo15, eo15, hko15⟩ := orL_s hf
      rcases zo15 with xo15 | o15
      · have hf := orL_1 hko15 rfl
        exact ep_outT' hno hlocks (ep_runVT (As := []) (rest := []) ⟨hx, hb, hml, hown, hts⟩ (metTX5_next l G h14 a0 eo15) (cwV 0 hts (lw_V q202 q204 qs0 q91 q205) rfl rfl rfl hdX5_next ⟨Nat.le_of_ble_eq_true rfl, Nat.le_of_ble_eq_true rfl⟩) (ep_preV hK hZ hw rfl (ckX5_next eo15)) rfl rfl hl.1 rfl (lv_room (Nat.le_of_ble_eq_true rfl)) dX5_wordInto_66 ⟨Nat.le_of_ble_eq_true rfl, Nat.le_of_ble_eq_true rfl⟩) hw hf
      have hf := orL_2 hko15 rfl
      refine ep_callv0 (va_runV (As := []) (rest := []) ⟨hx, hb, hml, hown, hts⟩ (metX5_next l G h14 a0 eo15) (cwV 0 hts (lw_V q202 q204 qs0 q91 q205) rfl rfl rfl hdX5_next ⟨Nat.le_of_ble_eq_true rfl, Nat.le_of_ble_eq_true rfl⟩) (ep_preV hK hZ hw rfl (ckX5_next eo15)) rfl rfl hl.1 rfl (lv_room (Nat.le_of_ble_eq_true rfl)) dX5_wordInto_66 ⟨Nat.le_of_ble_eq_true rfl, Nat.le_of_ble_eq_true rfl⟩) hw (fun H locs hw => ?_)
      refine lv_iload_n hx hb dX5_wordInto_69 rfl (lv_at hl 0 rfl) ?_
      cases hf
    refine lv_icmp_gt (tgt := 36) hx hb dX5_wordInto_29 (by decide) (fun c8 => ?_) (fun c8 => ?_)
    · refine lv_iconst (v := iI 0) hx hb dX5_wordInto_36 rfl ?_
      rw [if_pos c8] at hJ7
      exact hJ7
    · refine lv_iconst (v := iI 1) hx hb dX5_wordInto_32 rfl ?_
      refine lv_goto (tgt := 37) hx hb dX5_wordInto_33 (by decide) ?_
      rw [if_neg c8] at hJ7
      exact hJ7
  refine lv_icmp_ne (tgt := 13) hx hb dX5_wordInto_6 (by decide) (fun c3 => ?_) (fun c3 => ?_)
  · refine lv_iconst (v := iI 0) hx hb dX5_wordInto_13 rfl ?_
    rw [if_neg c3] at hJ2
    exact hJ2
  · refine lv_iconst (v := iI 1) hx hb dX5_wordInto_9 rfl ?_
    refine lv_goto (tgt := 14) hx hb dX5_wordInto_10 (by decide) ?_
    rw [if_pos c3] at hJ2
    exact hJ2
theorem hsX0_has : yX0_has.cls ≠ "java/lang/invoke/MethodHandle" ∧ yX0_has.cls ≠ "java/lang/invoke/VarHandle" ∧ (parseMethodDescriptor yX0_has.desc).map (fun d => d.parameters.length) = some 2 := by decide +kernel
abbrev wX0_has (p : Program) (l : Launch) (e : Env) (s : State) (m : MethodId) (below : List Frame) (meth : Method) (c : Code) (G : EG) (h : Hp) (x0 : Int32) (x1 : Int32) (res : Int32) (k9 n9 : Nat) (H : Heap) (locs : List Loc) (g : JFrame) : Prop := W p l e (headSpec (ws_ yX0_has cX0_has 2 (some .boolean)) ({ frames := 0, cells := 0, slots := 0, locals := 0 } : Room)).room s m ([.int x0, .int x1] : List Value).toArray below meth c H locs k9 n9 (MQ below (ep_Qi G ep_cl h res) ([.int x0, .int x1] : List Value).toArray s 0 0 (ep_A G)) g
set_option maxHeartbeats 4000000 in
theorem metX0_has (l : Launch) (G : EG) (h : Hp) (x0 : Int32) (x1 : Int32) {res : Int32} (hf : fX0_has x0 x1 = some res) : Met l yX0_has (ws_ yX0_has cX0_has 2 (some .boolean)) ({ frames := 0, cells := 0, slots := 0, locals := 0 } : Room) (ep_Pc G ep_cl h [.int x0, .int x1]) (ep_Qi G ep_cl h res) 0 0 (ep_A G) := by
  refine Met.ofW (cc := cX0_has) (maxL := 2) (ret := (some .boolean)) (by decide) rfl ?_
  intro p e s m args below meth c s₁ B hml hv
  obtain ⟨rfl, hR, hK, hZ⟩ := hv
  have hx := B.exec
  have hb := B.bytes
  have hr := B.returns
  have hlocks := B.notSynchronized
  have hts := atoms_spec (ws := (ws_ yX0_has cX0_has 2 (some .boolean))) B.pre
  have hts : ∀ w ∈ lw_all, w.before _ s = true := fun w h => hts w (List.mem_cons_of_mem _ h)
  have hown : s.vm.findClass RX0 = some m.cls := findClass_of_methodNamed B.named
  have hw : ep_W G ep_cl h s s.heap [] := ⟨hR, va_S.rf⟩
  have hl := lv_entry ([.int x0, .int x1]) (n := 2) (Nat.le_of_ble_eq_true rfl)
  rw [lg_entry_eq]
  generalize (lg_sl ([.int x0, .int x1]) ++ List.replicate (2 - (lg_sl ([.int x0, .int x1])).length) Slot.unset).toArray = ls at hl ⊢
  have hl : lv_has ls 2 [(0, .int x0), (1, .int x1)] := hl
  unfold fX0_has at hf
  show wX0_has p l e s m below meth c G h x0 x1 res 0 0 s.heap ([]) (F0 m 0 ls [])
  refine lv_iload_n hx hb dX0_has_0 rfl (lv_at hl 0 rfl) ?_
  refine lv_iload_n hx hb dX0_has_1 rfl (lv_at hl 1 rfl) ?_
  refine lv_ishr hx hb dX0_has_2 ?_
  refine lv_iconst (v := iI 1) hx hb dX0_has_3 rfl ?_
  refine lv_iand hx hb dX0_has_4 ?_
  refine lv_iconst (v := iI 1) hx hb dX0_has_5 rfl ?_
  refine lv_icmp_ne (tgt := 13) hx hb dX0_has_6 (by decide) (fun c1 => ?_) (fun c1 => ?_)
  · have hf := oi_f hf c1
    refine lv_iconst (v := iI 0) hx hb dX0_has_13 rfl ?_
    exact ep_retzR hx hb hr rfl hlocks hw hf dX0_has_14
  · have hf := oi_t hf c1
    refine lv_iconst (v := iI 1) hx hb dX0_has_9 rfl ?_
    refine lv_goto (tgt := 14) hx hb dX0_has_10 (by decide) ?_
    exact ep_retzR hx hb hr rfl hlocks hw hf dX0_has_14
theorem hdX5_other : yX5_other.cls = RX5 ∧ yX5_other.cls ≠ "java/lang/invoke/MethodHandle" ∧ yX5_other.cls ≠ "java/lang/invoke/VarHandle" ∧ (parseMethodDescriptor yX5_other.desc).map (fun d => d.parameters.length) = some 3 := by decide +kernel
theorem ckX5_other {h : Hp} {a0 : Nat} {x1 : Int32} {x2 : Int32} {x3 : Int32} {res : Thr ⊕ (Int32 × Hp)} (hf : fX5_other h a0 x1 x2 x3 = some res) : ep_cls h a0 = some 5 := by
  unfold fX5_other at hf
  exact (oi_c hf).1
abbrev wX5_other (p : Program) (l : Launch) (e : Env) (s : State) (m : MethodId) (below : List Frame) (meth : Method) (c : Code) (G : EG) (h : Hp) (a0 : Nat) (x1 : Int32) (x2 : Int32) (x3 : Int32) (res : Int32 × Hp) (k9 n9 : Nat) (H : Heap) (locs : List Loc) (g : JFrame) : Prop := W p l e (headSpec (ws_ yX5_other cX5_other 5 (some .int)) ({ frames := 7, cells := 0, slots := 0, locals := 157 } : Room)).room s m ([.ref a0, .int x1, .int x2, .int x3] : List Value).toArray below meth c H locs k9 n9 (MQ below (ep_Qi G ep_cl res.2 res.1) ([.ref a0, .int x1, .int x2, .int x3] : List Value).toArray s 0 0 (ep_A G)) g
set_option maxHeartbeats 4000000 in
theorem metX5_other (l : Launch) (G : EG) (h : Hp) (a0 : Nat) (x1 : Int32) (x2 : Int32) (x3 : Int32) {res : Int32 × Hp} (hf : fX5_other h a0 x1 x2 x3 = some (.inr res)) : Met l yX5_other (ws_ yX5_other cX5_other 5 (some .int)) ({ frames := 7, cells := 0, slots := 0, locals := 157 } : Room) (ep_Pc G ep_cl h [.ref a0, .int x1, .int x2, .int x3]) (ep_Qi G ep_cl res.2 res.1) 0 0 (ep_A G) := by
  refine Met.ofW (cc := cX5_other) (maxL := 5) (ret := (some .int)) (by decide) rfl ?_
  intro p e s m args below meth c s₁ B hml hv
  obtain ⟨rfl, hR, hK, hZ⟩ := hv
  have hx := B.exec
  have hb := B.bytes
  have hr := B.returns
  have hlocks := B.notSynchronized
  have hts := atoms_spec (ws := (ws_ yX5_other cX5_other 5 (some .int))) B.pre
  have hts : ∀ w ∈ lw_all, w.before _ s = true := fun w h => hts w (List.mem_cons_of_mem _ h)
  have hown : s.vm.findClass RX5 = some m.cls := findClass_of_methodNamed B.named
  have hw : ep_W G ep_cl h s s.heap [] := ⟨hR, va_S.rf⟩
  have hl := lv_entry ([.ref a0, .int x1, .int x2, .int x3]) (n := 5) (Nat.le_of_ble_eq_true rfl)
  rw [lg_entry_eq]
  generalize (lg_sl ([.ref a0, .int x1, .int x2, .int x3]) ++ List.replicate (5 - (lg_sl ([.ref a0, .int x1, .int x2, .int x3])).length) Slot.unset).toArray = ls at hl ⊢
  have hl : lv_has ls 5 [(0, .ref a0), (1, .int x1), (2, .int x2), (3, .int x3)] := hl
  unfold fX5_other at hf
  have hf := (oi_c hf).2
  show wX5_other p l e s m below meth c G h a0 x1 x2 x3 res 0 0 s.heap ([]) (F0 m 0 ls [])
  refine lv_aload_n hx hb dX5_other_0 rfl (lv_at hl 0 rfl) ?_
  refine lv_aload_n hx hb dX5_other_1 rfl (lv_at hl 0 rfl) ?_
  obtain ⟨v1, ev1, hf⟩ := ob_s hf
  refine ep_get (C := RX5) (T := TX5) (N := 11) (ci := 5) hx hb hts in_X5 hown hK hw rfl 9 (by decide) q322 (gI_f ev1) dX5_other_2 ?_
  refine lv_iconst (v := iI 2) hx hb dX5_other_5 rfl ?_
  have hJ2 : wX5_other p l e s m below meth c G h a0 x1 x2 x3 res 0 0 s.heap ([]) (F0 m 14 ls [.int (if v1 = (iI 2) then iI 1 else iI 0), .ref a0]) := by
    refine lv_iconst (v := iI 2) hx hb dX5_other_14 rfl ?_
    obtain ⟨zo4, eo4, hko4⟩ := orL_s hf
    rcases zo4 with xo4 | o4
    · have hf := orL_1 hko4 rfl
      cases hf
    have hf := orL_2 hko4 rfl
    refine ep_callv0 (va_runV (As := [.int (if v1 = (iI 2) then iI 1 else iI 0), .int (iI 2)]) (rest := []) ⟨hx, hb, hml, hown, hts⟩ (metX5_must l G h a0 (if v1 = (iI 2) then iI 1 else iI 0) (iI 2) eo4) (cwV 2 hts (lw_V q215 q217 qs2 q91 q218) rfl rfl rfl hdX5_must ⟨Nat.le_of_ble_eq_true rfl, Nat.le_of_ble_eq_true rfl⟩) (ep_preV hK hZ hw rfl (ckX5_must eo4)) rfl rfl hl.1 rfl (lv_room (Nat.le_of_ble_eq_true rfl)) dX5_other_15 ⟨Nat.le_of_ble_eq_true rfl, Nat.le_of_ble_eq_true rfl⟩) hw (fun H locs hw => ?_)
    refine lv_aload_n hx hb dX5_other_18 rfl (lv_at hl 0 rfl) ?_
    refine lv_aload_n hx hb dX5_other_19 rfl (lv_at hl 0 rfl) ?_
    obtain ⟨v5, ev5, hf⟩ := ob_s hf
    refine ep_get (C := RX5) (T := TX5) (N := 11) (ci := 5) hx hb hts in_X5 hown hK hw rfl 10 (by decide) q323 (gI_f ev5) dX5_other_20 ?_
    refine lv_i2l (v := v5.toInt64) hx hb dX5_other_23 rfl ?_
    refine lv_iload_n hx hb dX5_other_24 rfl (lv_at hl 1 rfl) ?_
    refine lv_i2l (v := x1.toInt64) hx hb dX5_other_25 rfl ?_
    refine lv_iload_n hx hb dX5_other_26 rfl (lv_at hl 2 rfl) ?_
    refine lv_i2l (v := x2.toInt64) hx hb dX5_other_27 rfl ?_
    obtain ⟨v6, ev6, hf⟩ := ob_s hf
    refine ep_calli0 (va_runSN (As := [.long v5.toInt64, .long x1.toInt64, .long x2.toInt64]) (rest := [.ref a0]) ⟨hx, hb, hml, hown, hts⟩ (metX0_isIn l G o4 v5.toInt64 x1.toInt64 x2.toInt64 ev6) ⟨va_cnB 3 hts (lw_meth q116) rfl rfl rfl (hK.nest q212 rfl) (hts _ q85) hsX0_isIn ⟨Nat.le_of_ble_eq_true rfl, Nat.le_of_ble_eq_true rfl⟩, hts _ q115, trivial⟩ (ep_preS hK hZ hw) rfl rfl hl.1 rfl (lv_room (Nat.le_of_ble_eq_true rfl)) dX5_other_28 ⟨Nat.le_of_ble_eq_true rfl, Nat.le_of_ble_eq_true rfl⟩) hw (fun H locs hw => ?_)
    refine lv_iconst (v := iI 3) hx hb dX5_other_31 rfl ?_
    obtain ⟨zo7, eo7, hko7⟩ := orL_s hf
    rcases zo7 with xo7 | o7
    · have hf := orL_1 hko7 rfl
      cases hf
    have hf := orL_2 hko7 rfl
    refine ep_callv0 (va_runV (As := [.int v6, .int (iI 3)]) (rest := []) ⟨hx, hb, hml, hown, hts⟩ (metX5_must l G o4 a0 v6 (iI 3) eo7) (cwV 2 hts (lw_V q215 q217 qs2 q91 q218) rfl rfl rfl hdX5_must ⟨Nat.le_of_ble_eq_true rfl, Nat.le_of_ble_eq_true rfl⟩) (ep_preV hK hZ hw rfl (ckX5_must eo7)) rfl rfl hl.1 rfl (lv_room (Nat.le_of_ble_eq_true rfl)) dX5_other_32 ⟨Nat.le_of_ble_eq_true rfl, Nat.le_of_ble_eq_true rfl⟩) hw (fun H locs hw => ?_)
    refine lv_aload_n hx hb dX5_other_35 rfl (lv_at hl 0 rfl) ?_
    refine lv_iload_n hx hb dX5_other_36 rfl (lv_at hl 3 rfl) ?_
    refine lv_aload_n hx hb dX5_other_37 rfl (lv_at hl 0 rfl) ?_
    obtain ⟨v8, ev8, hf⟩ := ob_s hf
    refine ep_get (C := RX5) (T := TX5) (N := 11) (ci := 5) hx hb hts in_X5 hown hK hw rfl 10 (by decide) q323 (gI_f ev8) dX5_other_38 ?_
    obtain ⟨v9, ev9, hf⟩ := ob_s hf
    refine ep_calli0 (va_runSN (As := [.int x3, .int v8]) (rest := [.ref a0]) ⟨hx, hb, hml, hown, hts⟩ (metX0_has l G o7 x3 v8 ev9) ⟨va_cnB 2 hts (lw_meth q428) rfl rfl rfl (hK.nest q426 rfl) (hts _ q85) hsX0_has ⟨Nat.le_of_ble_eq_true rfl, Nat.le_of_ble_eq_true rfl⟩, hts _ q427, trivial⟩ (ep_preS hK hZ hw) rfl rfl hl.1 rfl (lv_room (Nat.le_of_ble_eq_true rfl)) dX5_other_41 ⟨Nat.le_of_ble_eq_true rfl, Nat.le_of_ble_eq_true rfl⟩) hw (fun H locs hw => ?_)
    have hJ10 : wX5_other p l e s m below meth c G h a0 x1 x2 x3 res 0 0 H locs (F0 m 52 ls [.int (if v9 = 0 then iI 1 else iI 0), .ref a0]) := by
      refine lv_iconst (v := iI 4) hx hb dX5_other_52 rfl ?_
      obtain ⟨zo12, eo12, hko12⟩ := orL_s hf
      rcases zo12 with xo12 | o12
      · have hf := orL_1 hko12 rfl
        cases hf
      have hf := orL_2 hko12 rfl
      refine ep_callv0 (va_runV (As := [.int (if v9 = 0 then iI 1 else iI 0), .int (iI 4)]) (rest := []) ⟨hx, hb, hml, hown, hts⟩ (metX5_must l G o7 a0 (if v9 = 0 then iI 1 else iI 0) (iI 4) eo12) (cwV 2 hts (lw_V q215 q217 qs2 q91 q218) rfl rfl rfl hdX5_must ⟨Nat.le_of_ble_eq_true rfl, Nat.le_of_ble_eq_true rfl⟩) (ep_preV hK hZ hw rfl (ckX5_must eo12)) rfl rfl hl.1 rfl (lv_room (Nat.le_of_ble_eq_true rfl)) dX5_other_53 ⟨Nat.le_of_ble_eq_true rfl, Nat.le_of_ble_eq_true rfl⟩) hw (fun H locs hw => ?_)
      refine lv_aload_n hx hb dX5_other_56 rfl (lv_at hl 0 rfl) ?_
      obtain ⟨v13, ev13, hf⟩ := ob_s hf
      refine ep_get (C := RX5) (T := TX5) (N := 11) (ci := 5) hx hb hts in_X5 hown hK hw rfl 10 (by decide) q323 (gI_f ev13) dX5_other_57 ?_
      refine lv_istore (lv' := [(4, .int v13), (0, .ref a0), (1, .int x1), (2, .int x2), (3, .int x3)]) hx hb dX5_other_60 hl (by decide) rfl (fun ls hl => ?_)
      refine lv_aload_n hx hb dX5_other_62 rfl (lv_at hl 1 rfl) ?_
      obtain ⟨zo14, eo14, hko14⟩ := orL_s hf
      rcases zo14 with xo14 | o14
      · have hf := orL_1 hko14 rfl
        cases hf
      have hf := orL_2 hko14 rfl
      refine ep_callv0 (va_runV (As := []) (rest := []) ⟨hx, hb, hml, hown, hts⟩ (metX5_next l G o12 a0 eo14) (cwV 0 hts (lw_V q202 q204 qs0 q91 q205) rfl rfl rfl hdX5_next ⟨Nat.le_of_ble_eq_true rfl, Nat.le_of_ble_eq_true rfl⟩) (ep_preV hK hZ hw rfl (ckX5_next eo14)) rfl rfl hl.1 rfl (lv_room (Nat.le_of_ble_eq_true rfl)) dX5_other_63 ⟨Nat.le_of_ble_eq_true rfl, Nat.le_of_ble_eq_true rfl⟩) hw (fun H locs hw => ?_)
      refine lv_iload hx hb dX5_other_66 (lv_at hl 0 rfl) ?_
      exact ep_retiW hx hb hr hlocks hw (sm_r hf) dX5_other_68
    refine lv_if_ne (tgt := 51) hx hb dX5_other_44 (by decide) (fun c11 => ?_) (fun c11 => ?_)
    · refine lv_iconst (v := iI 0) hx hb dX5_other_51 rfl ?_
      rw [if_neg c11] at hJ10
      exact hJ10
    · refine lv_iconst (v := iI 1) hx hb dX5_other_47 rfl ?_
      refine lv_goto (tgt := 52) hx hb dX5_other_48 (by decide) ?_
      rw [if_pos c11] at hJ10
      exact hJ10
  refine lv_icmp_ne (tgt := 13) hx hb dX5_other_6 (by decide) (fun c3 => ?_) (fun c3 => ?_)
  · refine lv_iconst (v := iI 0) hx hb dX5_other_13 rfl ?_
    rw [if_neg c3] at hJ2
    exact hJ2
  · refine lv_iconst (v := iI 1) hx hb dX5_other_9 rfl ?_
    refine lv_goto (tgt := 14) hx hb dX5_other_10 (by decide) ?_
    rw [if_pos c3] at hJ2
    exact hJ2
abbrev wTX5_other (p : Program) (l : Launch) (e : Env) (s : State) (m : MethodId) (below : List Frame) (meth : Method) (c : Code) (G : EG) (h : Hp) (a0 : Nat) (x1 : Int32) (x2 : Int32) (x3 : Int32) (res : Thr) (k9 n9 : Nat) (H : Heap) (locs : List Loc) (g : JFrame) : Prop := W p l e (headSpec (ws_ yX5_other cX5_other 5 (some .int)) ({ frames := 7, cells := 1, slots := 8, locals := 157 } : Room)).room s m ([.ref a0, .int x1, .int x2, .int x3] : List Value).toArray below meth c H locs k9 n9 (MQT below (ep_Qt G ep_cl res) ([.ref a0, .int x1, .int x2, .int x3] : List Value).toArray s 1 8 (ep_A G)) g
set_option maxHeartbeats 4000000 in
theorem metTX5_other (l : Launch) (G : EG) (h : Hp) (a0 : Nat) (x1 : Int32) (x2 : Int32) (x3 : Int32) {res : Thr} (hf : fX5_other h a0 x1 x2 x3 = some (.inl res)) : MetT l yX5_other (ws_ yX5_other cX5_other 5 (some .int)) ({ frames := 7, cells := 1, slots := 8, locals := 157 } : Room) (ep_Pc G ep_cl h [.ref a0, .int x1, .int x2, .int x3]) (ep_Qt G ep_cl res) 1 8 (ep_A G) := by
  refine MetT.ofW (cc := cX5_other) (maxL := 5) (ret := (some .int)) (by decide) rfl ?_
  intro p e s m args below meth c s₁ B hml hv
  obtain ⟨rfl, hR, hK, hZ⟩ := hv
  have hx := B.exec
  have hb := B.bytes
  have hr := B.returns
  have hlocks := B.notSynchronized
  have hts := atoms_spec (ws := (ws_ yX5_other cX5_other 5 (some .int))) B.pre
  have hno : c.exceptionTable.toList = [] := by
    have h := B.noHandlers (hts _ List.mem_cons_self)
    simpa using h
  have hts : ∀ w ∈ lw_all, w.before _ s = true := fun w h => hts w (List.mem_cons_of_mem _ h)
  have hown : s.vm.findClass RX5 = some m.cls := findClass_of_methodNamed B.named
  have hw : ep_W G ep_cl h s s.heap [] := ⟨hR, va_S.rf⟩
  have hl := lv_entry ([.ref a0, .int x1, .int x2, .int x3]) (n := 5) (Nat.le_of_ble_eq_true rfl)
  rw [lg_entry_eq]
  generalize (lg_sl ([.ref a0, .int x1, .int x2, .int x3]) ++ List.replicate (5 - (lg_sl ([.ref a0, .int x1, .int x2, .int x3])).length) Slot.unset).toArray = ls at hl ⊢
  have hl : lv_has ls 5 [(0, .ref a0), (1, .int x1), (2, .int x2), (3, .int x3)] := hl
  unfold fX5_other at hf
  have hf := (oi_c hf).2
  show wTX5_other p l e s m below meth c G h a0 x1 x2 x3 res 0 0 s.heap ([]) (F0 m 0 ls [])
  refine lv_aload_n hx hb dX5_other_0 rfl (lv_at hl 0 rfl) ?_
  refine lv_aload_n hx hb dX5_other_1 rfl (lv_at hl 0 rfl) ?_
  obtain ⟨v1, ev1, hf⟩ := ob_s hf
  refine ep_get (C := RX5) (T := TX5) (N := 11) (ci := 5) hx hb hts in_X5 hown hK hw rfl 9 (by decide) q322 (gI_f ev1) dX5_other_2 ?_
  refine lv_iconst (v := iI 2) hx hb dX5_other_5 rfl ?_
  have hJ2 : wTX5_other p l e s m below meth c G h a0 x1 x2 x3 res 0 0 s.heap ([]) (F0 m 14 ls [.int (if v1 = (iI 2) then iI 1 else iI 0), .ref a0]) := by
    refine lv_iconst (v := iI 2) hx hb dX5_other_14 rfl ?_
    obtain ⟨zo4, eo4, hko4⟩ := orL_s hf
    rcases zo4 with xo4 | o4
    · have hf := orL_1 hko4 rfl
      exact ep_outT' hno hlocks (ep_runVT (As := [.int (if v1 = (iI 2) then iI 1 else iI 0), .int (iI 2)]) (rest := []) ⟨hx, hb, hml, hown, hts⟩ (metTX5_must l G h a0 (if v1 = (iI 2) then iI 1 else iI 0) (iI 2) eo4) (cwV 2 hts (lw_V q215 q217 qs2 q91 q218) rfl rfl rfl hdX5_must ⟨Nat.le_of_ble_eq_true rfl, Nat.le_of_ble_eq_true rfl⟩) (ep_preV hK hZ hw rfl (ckX5_must eo4)) rfl rfl hl.1 rfl (lv_room (Nat.le_of_ble_eq_true rfl)) dX5_other_15 ⟨Nat.le_of_ble_eq_true rfl, Nat.le_of_ble_eq_true rfl⟩) hw hf
    have hf := orL_2 hko4 rfl
    refine ep_callv0 (va_runV (As := [.int (if v1 = (iI 2) then iI 1 else iI 0), .int (iI 2)]) (rest := []) ⟨hx, hb, hml, hown, hts⟩ (metX5_must l G h a0 (if v1 = (iI 2) then iI 1 else iI 0) (iI 2) eo4) (cwV 2 hts (lw_V q215 q217 qs2 q91 q218) rfl rfl rfl hdX5_must ⟨Nat.le_of_ble_eq_true rfl, Nat.le_of_ble_eq_true rfl⟩) (ep_preV hK hZ hw rfl (ckX5_must eo4)) rfl rfl hl.1 rfl (lv_room (Nat.le_of_ble_eq_true rfl)) dX5_other_15 ⟨Nat.le_of_ble_eq_true rfl, Nat.le_of_ble_eq_true rfl⟩) hw (fun H locs hw => ?_)
    refine lv_aload_n hx hb dX5_other_18 rfl (lv_at hl 0 rfl) ?_
    refine lv_aload_n hx hb dX5_other_19 rfl (lv_at hl 0 rfl) ?_
    obtain ⟨v5, ev5, hf⟩ := ob_s hf
    refine ep_get (C := RX5) (T := TX5) (N := 11) (ci := 5) hx hb hts in_X5 hown hK hw rfl 10 (by decide) q323 (gI_f ev5) dX5_other_20 ?_
    refine lv_i2l (v := v5.toInt64) hx hb dX5_other_23 rfl ?_
    refine lv_iload_n hx hb dX5_other_24 rfl (lv_at hl 1 rfl) ?_
    refine lv_i2l (v := x1.toInt64) hx hb dX5_other_25 rfl ?_
    refine lv_iload_n hx hb dX5_other_26 rfl (lv_at hl 2 rfl) ?_
    refine lv_i2l (v := x2.toInt64) hx hb dX5_other_27 rfl ?_
    obtain ⟨v6, ev6, hf⟩ := ob_s hf
    refine ep_calli0 (va_runSN (As := [.long v5.toInt64, .long x1.toInt64, .long x2.toInt64]) (rest := [.ref a0]) ⟨hx, hb, hml, hown, hts⟩ (metX0_isIn l G o4 v5.toInt64 x1.toInt64 x2.toInt64 ev6) ⟨va_cnB 3 hts (lw_meth q116) rfl rfl rfl (hK.nest q212 rfl) (hts _ q85) hsX0_isIn ⟨Nat.le_of_ble_eq_true rfl, Nat.le_of_ble_eq_true rfl⟩, hts _ q115, trivial⟩ (ep_preS hK hZ hw) rfl rfl hl.1 rfl (lv_room (Nat.le_of_ble_eq_true rfl)) dX5_other_28 ⟨Nat.le_of_ble_eq_true rfl, Nat.le_of_ble_eq_true rfl⟩) hw (fun H locs hw => ?_)
    refine lv_iconst (v := iI 3) hx hb dX5_other_31 rfl ?_
    obtain ⟨zo7, eo7, hko7⟩ := orL_s hf
    rcases zo7 with xo7 | o7
    · have hf := orL_1 hko7 rfl
      exact ep_outT' hno hlocks (ep_runVT (As := [.int v6, .int (iI 3)]) (rest := []) ⟨hx, hb, hml, hown, hts⟩ (metTX5_must l G o4 a0 v6 (iI 3) eo7) (cwV 2 hts (lw_V q215 q217 qs2 q91 q218) rfl rfl rfl hdX5_must ⟨Nat.le_of_ble_eq_true rfl, Nat.le_of_ble_eq_true rfl⟩) (ep_preV hK hZ hw rfl (ckX5_must eo7)) rfl rfl hl.1 rfl (lv_room (Nat.le_of_ble_eq_true rfl)) dX5_other_32 ⟨Nat.le_of_ble_eq_true rfl, Nat.le_of_ble_eq_true rfl⟩) hw hf
    have hf := orL_2 hko7 rfl
    refine ep_callv0 (va_runV (As := [.int v6, .int (iI 3)]) (rest := []) ⟨hx, hb, hml, hown, hts⟩ (metX5_must l G o4 a0 v6 (iI 3) eo7) (cwV 2 hts (lw_V q215 q217 qs2 q91 q218) rfl rfl rfl hdX5_must ⟨Nat.le_of_ble_eq_true rfl, Nat.le_of_ble_eq_true rfl⟩) (ep_preV hK hZ hw rfl (ckX5_must eo7)) rfl rfl hl.1 rfl (lv_room (Nat.le_of_ble_eq_true rfl)) dX5_other_32 ⟨Nat.le_of_ble_eq_true rfl, Nat.le_of_ble_eq_true rfl⟩) hw (fun H locs hw => ?_)
    refine lv_aload_n hx hb dX5_other_35 rfl (lv_at hl 0 rfl) ?_
    refine lv_iload_n hx hb dX5_other_36 rfl (lv_at hl 3 rfl) ?_
    refine lv_aload_n hx hb dX5_other_37 rfl (lv_at hl 0 rfl) ?_
    obtain ⟨v8, ev8, hf⟩ := ob_s hf
    refine ep_get (C := RX5) (T := TX5) (N := 11) (ci := 5) hx hb hts in_X5 hown hK hw rfl 10 (by decide) q323 (gI_f ev8) dX5_other_38 ?_
    obtain ⟨v9, ev9, hf⟩ := ob_s hf
    refine ep_calli0 (va_runSN (As := [.int x3, .int v8]) (rest := [.ref a0]) ⟨hx, hb, hml, hown, hts⟩ (metX0_has l G o7 x3 v8 ev9) ⟨va_cnB 2 hts (lw_meth q428) rfl rfl rfl (hK.nest q426 rfl) (hts _ q85) hsX0_has ⟨Nat.le_of_ble_eq_true rfl, Nat.le_of_ble_eq_true rfl⟩, hts _ q427, trivial⟩ (ep_preS hK hZ hw) rfl rfl hl.1 rfl (lv_room (Nat.le_of_ble_eq_true rfl)) dX5_other_41 ⟨Nat.le_of_ble_eq_true rfl, Nat.le_of_ble_eq_true rfl⟩) hw (fun H locs hw => ?_)
    have hJ10 : wTX5_other p l e s m below meth c G h a0 x1 x2 x3 res 0 0 H locs (F0 m 52 ls [.int (if v9 = 0 then iI 1 else iI 0), .ref a0]) := by
      refine lv_iconst (v := iI 4) hx hb dX5_other_52 rfl ?_
      obtain ⟨zo12, eo12, hko12⟩ := orL_s hf
      rcases zo12 with xo12 | o12
      · have hf := orL_1 hko12 rfl
        exact ep_outT' hno hlocks (ep_runVT (As := [.int (if v9 = 0 then iI 1 else iI 0), .int (iI 4)]) (rest := []) ⟨hx, hb, hml, hown, hts⟩ (metTX5_must l G o7 a0 (if v9 = 0 then iI 1 else iI 0) (iI 4) eo12) (cwV 2 hts (lw_V q215 q217 qs2 q91 q218) rfl rfl rfl hdX5_must ⟨Nat.le_of_ble_eq_true rfl, Nat.le_of_ble_eq_true rfl⟩) (ep_preV hK hZ hw rfl (ckX5_must eo12)) rfl rfl hl.1 rfl (lv_room (Nat.le_of_ble_eq_true rfl)) dX5_other_53 ⟨Nat.le_of_ble_eq_true rfl, Nat.le_of_ble_eq_true rfl⟩) hw hf
      have hf := orL_2 hko12 rfl
      refine ep_callv0 (va_runV (As := [.int (if v9 = 0 then iI 1 else iI 0), .int (iI 4)]) (rest := []) ⟨hx, hb, hml, hown, hts⟩ (metX5_must l G o7 a0 (if v9 = 0 then iI 1 else iI 0) (iI 4) eo12) (cwV 2 hts (lw_V q215 q217 qs2 q91 q218) rfl rfl rfl hdX5_must ⟨Nat.le_of_ble_eq_true rfl, Nat.le_of_ble_eq_true rfl⟩) (ep_preV hK hZ hw rfl (ckX5_must eo12)) rfl rfl hl.1 rfl (lv_room (Nat.le_of_ble_eq_true rfl)) dX5_other_53 ⟨Nat.le_of_ble_eq_true rfl, Nat.le_of_ble_eq_true rfl⟩) hw (fun H locs hw => ?_)
      refine lv_aload_n hx hb dX5_other_56 rfl (lv_at hl 0 rfl) ?_
      obtain ⟨v13, ev13, hf⟩ := ob_s hf
      refine ep_get (C := RX5) (T := TX5) (N := 11) (ci := 5) hx hb hts in_X5 hown hK hw rfl 10 (by decide) q323 (gI_f ev13) dX5_other_57 ?_
      refine lv_istore (lv' := [(4, .int v13), (0, .ref a0), (1, .int x1), (2, .int x2), (3, .int x3)]) hx hb dX5_other_60 hl (by decide) rfl (fun ls hl => ?_)
      refine lv_aload_n hx hb dX5_other_62 rfl (lv_at hl 1 rfl) ?_
      obtain ⟨zo14, eo14, hko14⟩ := orL_s hf
      rcases zo14 with xo14 | o14
      · have hf := orL_1 hko14 rfl
        exact ep_outT' hno hlocks (ep_runVT (As := []) (rest := []) ⟨hx, hb, hml, hown, hts⟩ (metTX5_next l G o12 a0 eo14) (cwV 0 hts (lw_V q202 q204 qs0 q91 q205) rfl rfl rfl hdX5_next ⟨Nat.le_of_ble_eq_true rfl, Nat.le_of_ble_eq_true rfl⟩) (ep_preV hK hZ hw rfl (ckX5_next eo14)) rfl rfl hl.1 rfl (lv_room (Nat.le_of_ble_eq_true rfl)) dX5_other_63 ⟨Nat.le_of_ble_eq_true rfl, Nat.le_of_ble_eq_true rfl⟩) hw hf
      have hf := orL_2 hko14 rfl
      refine ep_callv0 (va_runV (As := []) (rest := []) ⟨hx, hb, hml, hown, hts⟩ (metX5_next l G o12 a0 eo14) (cwV 0 hts (lw_V q202 q204 qs0 q91 q205) rfl rfl rfl hdX5_next ⟨Nat.le_of_ble_eq_true rfl, Nat.le_of_ble_eq_true rfl⟩) (ep_preV hK hZ hw rfl (ckX5_next eo14)) rfl rfl hl.1 rfl (lv_room (Nat.le_of_ble_eq_true rfl)) dX5_other_63 ⟨Nat.le_of_ble_eq_true rfl, Nat.le_of_ble_eq_true rfl⟩) hw (fun H locs hw => ?_)
      refine lv_iload hx hb dX5_other_66 (lv_at hl 0 rfl) ?_
      cases hf
    refine lv_if_ne (tgt := 51) hx hb dX5_other_44 (by decide) (fun c11 => ?_) (fun c11 => ?_)
    · refine lv_iconst (v := iI 0) hx hb dX5_other_51 rfl ?_
      rw [if_neg c11] at hJ10
      exact hJ10
    · refine lv_iconst (v := iI 1) hx hb dX5_other_47 rfl ?_
      refine lv_goto (tgt := 52) hx hb dX5_other_48 (by decide) ?_
      rw [if_pos c11] at hJ10
      exact hJ10
  refine lv_icmp_ne (tgt := 13) hx hb dX5_other_6 (by decide) (fun c3 => ?_) (fun c3 => ?_)
  · refine lv_iconst (v := iI 0) hx hb dX5_other_13 rfl ?_
    rw [if_neg c3] at hJ2
    exact hJ2
  · refine lv_iconst (v := iI 1) hx hb dX5_other_9 rfl ?_
    refine lv_goto (tgt := 14) hx hb dX5_other_10 (by decide) ?_
    rw [if_pos c3] at hJ2
    exact hJ2
theorem hdX5_number : yX5_number.cls = RX5 ∧ yX5_number.cls ≠ "java/lang/invoke/MethodHandle" ∧ yX5_number.cls ≠ "java/lang/invoke/VarHandle" ∧ (parseMethodDescriptor yX5_number.desc).map (fun d => d.parameters.length) = some 2 := by decide +kernel
theorem ckX5_number {h : Hp} {a0 : Nat} {x1 : Int32} {x2 : Int32} {res : Thr ⊕ (Int32 × Hp)} (hf : fX5_number h a0 x1 x2 = some res) : ep_cls h a0 = some 5 := by
  unfold fX5_number at hf
  exact (oi_c hf).1
abbrev wX5_number (p : Program) (l : Launch) (e : Env) (s : State) (m : MethodId) (below : List Frame) (meth : Method) (c : Code) (G : EG) (h : Hp) (a0 : Nat) (x1 : Int32) (x2 : Int32) (res : Int32 × Hp) (k9 n9 : Nat) (H : Heap) (locs : List Loc) (g : JFrame) : Prop := W p l e (headSpec (ws_ yX5_number cX5_number 3 (some .int)) ({ frames := 8, cells := 0, slots := 0, locals := 181 } : Room)).room s m ([.ref a0, .int x1, .int x2] : List Value).toArray below meth c H locs k9 n9 (MQ below (ep_Qi G ep_cl res.2 res.1) ([.ref a0, .int x1, .int x2] : List Value).toArray s 0 0 (ep_A G)) g
set_option maxHeartbeats 4000000 in
theorem metX5_number (l : Launch) (G : EG) (h : Hp) (a0 : Nat) (x1 : Int32) (x2 : Int32) {res : Int32 × Hp} (hf : fX5_number h a0 x1 x2 = some (.inr res)) : Met l yX5_number (ws_ yX5_number cX5_number 3 (some .int)) ({ frames := 8, cells := 0, slots := 0, locals := 181 } : Room) (ep_Pc G ep_cl h [.ref a0, .int x1, .int x2]) (ep_Qi G ep_cl res.2 res.1) 0 0 (ep_A G) := by
  refine Met.ofW (cc := cX5_number) (maxL := 3) (ret := (some .int)) (by decide) rfl ?_
  intro p e s m args below meth c s₁ B hml hv
  obtain ⟨rfl, hR, hK, hZ⟩ := hv
  have hx := B.exec
  have hb := B.bytes
  have hr := B.returns
  have hlocks := B.notSynchronized
  have hts := atoms_spec (ws := (ws_ yX5_number cX5_number 3 (some .int))) B.pre
  have hts : ∀ w ∈ lw_all, w.before _ s = true := fun w h => hts w (List.mem_cons_of_mem _ h)
  have hown : s.vm.findClass RX5 = some m.cls := findClass_of_methodNamed B.named
  have hw : ep_W G ep_cl h s s.heap [] := ⟨hR, va_S.rf⟩
  have hl := lv_entry ([.ref a0, .int x1, .int x2]) (n := 3) (Nat.le_of_ble_eq_true rfl)
  rw [lg_entry_eq]
  generalize (lg_sl ([.ref a0, .int x1, .int x2]) ++ List.replicate (3 - (lg_sl ([.ref a0, .int x1, .int x2])).length) Slot.unset).toArray = ls at hl ⊢
  have hl : lv_has ls 3 [(0, .ref a0), (1, .int x1), (2, .int x2)] := hl
  unfold fX5_number at hf
  have hf := (oi_c hf).2
  show wX5_number p l e s m below meth c G h a0 x1 x2 res 0 0 s.heap ([]) (F0 m 0 ls [])
  refine lv_aload_n hx hb dX5_number_0 rfl (lv_at hl 0 rfl) ?_
  refine lv_iload_n hx hb dX5_number_1 rfl (lv_at hl 1 rfl) ?_
  refine lv_iload_n hx hb dX5_number_2 rfl (lv_at hl 2 rfl) ?_
  refine lv_iconst (v := iI 0) hx hb dX5_number_3 rfl ?_
  obtain ⟨zo1, eo1, hko1⟩ := orL_s hf
  rcases zo1 with xo1 | o1
  · have hf := orL_1 hko1 rfl
    cases hf
  have hf := orL_2 hko1 rfl
  refine ep_calli0 (va_runV (As := [.int x1, .int x2, .int (iI 0)]) (rest := []) ⟨hx, hb, hml, hown, hts⟩ (metX5_other l G h a0 x1 x2 (iI 0) eo1) (cwV 3 hts (lw_V q422 q424 qs10 q91 q425) rfl rfl rfl hdX5_other ⟨Nat.le_of_ble_eq_true rfl, Nat.le_of_ble_eq_true rfl⟩) (ep_preV hK hZ hw rfl (ckX5_other eo1)) rfl rfl hl.1 rfl (lv_room (Nat.le_of_ble_eq_true rfl)) dX5_number_4 ⟨Nat.le_of_ble_eq_true rfl, Nat.le_of_ble_eq_true rfl⟩) hw (fun H locs hw => ?_)
  exact ep_retiW hx hb hr hlocks hw (sm_r hf) dX5_number_7
abbrev wTX5_number (p : Program) (l : Launch) (e : Env) (s : State) (m : MethodId) (below : List Frame) (meth : Method) (c : Code) (G : EG) (h : Hp) (a0 : Nat) (x1 : Int32) (x2 : Int32) (res : Thr) (k9 n9 : Nat) (H : Heap) (locs : List Loc) (g : JFrame) : Prop := W p l e (headSpec (ws_ yX5_number cX5_number 3 (some .int)) ({ frames := 8, cells := 1, slots := 8, locals := 181 } : Room)).room s m ([.ref a0, .int x1, .int x2] : List Value).toArray below meth c H locs k9 n9 (MQT below (ep_Qt G ep_cl res) ([.ref a0, .int x1, .int x2] : List Value).toArray s 1 8 (ep_A G)) g
set_option maxHeartbeats 4000000 in
theorem metTX5_number (l : Launch) (G : EG) (h : Hp) (a0 : Nat) (x1 : Int32) (x2 : Int32) {res : Thr} (hf : fX5_number h a0 x1 x2 = some (.inl res)) : MetT l yX5_number (ws_ yX5_number cX5_number 3 (some .int)) ({ frames := 8, cells := 1, slots := 8, locals := 181 } : Room) (ep_Pc G ep_cl h [.ref a0, .int x1, .int x2]) (ep_Qt G ep_cl res) 1 8 (ep_A G) := by
  refine MetT.ofW (cc := cX5_number) (maxL := 3) (ret := (some .int)) (by decide) rfl ?_
  intro p e s m args below meth c s₁ B hml hv
  obtain ⟨rfl, hR, hK, hZ⟩ := hv
  have hx := B.exec
  have hb := B.bytes
  have hr := B.returns
  have hlocks := B.notSynchronized
  have hts := atoms_spec (ws := (ws_ yX5_number cX5_number 3 (some .int))) B.pre
  have hno : c.exceptionTable.toList = [] := by
    have h := B.noHandlers (hts _ List.mem_cons_self)
    simpa using h
  have hts : ∀ w ∈ lw_all, w.before _ s = true := fun w h => hts w (List.mem_cons_of_mem _ h)
  have hown : s.vm.findClass RX5 = some m.cls := findClass_of_methodNamed B.named
  have hw : ep_W G ep_cl h s s.heap [] := ⟨hR, va_S.rf⟩
  have hl := lv_entry ([.ref a0, .int x1, .int x2]) (n := 3) (Nat.le_of_ble_eq_true rfl)
  rw [lg_entry_eq]
  generalize (lg_sl ([.ref a0, .int x1, .int x2]) ++ List.replicate (3 - (lg_sl ([.ref a0, .int x1, .int x2])).length) Slot.unset).toArray = ls at hl ⊢
  have hl : lv_has ls 3 [(0, .ref a0), (1, .int x1), (2, .int x2)] := hl
  unfold fX5_number at hf
  have hf := (oi_c hf).2
  show wTX5_number p l e s m below meth c G h a0 x1 x2 res 0 0 s.heap ([]) (F0 m 0 ls [])
  refine lv_aload_n hx hb dX5_number_0 rfl (lv_at hl 0 rfl) ?_
  refine lv_iload_n hx hb dX5_number_1 rfl (lv_at hl 1 rfl) ?_
  refine lv_iload_n hx hb dX5_number_2 rfl (lv_at hl 2 rfl) ?_
  refine lv_iconst (v := iI 0) hx hb dX5_number_3 rfl ?_
  obtain ⟨zo1, eo1, hko1⟩ := orL_s hf
  rcases zo1 with xo1 | o1
  · have hf := orL_1 hko1 rfl
    exact ep_outT' hno hlocks (ep_runVT (As := [.int x1, .int x2, .int (iI 0)]) (rest := []) ⟨hx, hb, hml, hown, hts⟩ (metTX5_other l G h a0 x1 x2 (iI 0) eo1) (cwV 3 hts (lw_V q422 q424 qs10 q91 q425) rfl rfl rfl hdX5_other ⟨Nat.le_of_ble_eq_true rfl, Nat.le_of_ble_eq_true rfl⟩) (ep_preV hK hZ hw rfl (ckX5_other eo1)) rfl rfl hl.1 rfl (lv_room (Nat.le_of_ble_eq_true rfl)) dX5_number_4 ⟨Nat.le_of_ble_eq_true rfl, Nat.le_of_ble_eq_true rfl⟩) hw hf
  have hf := orL_2 hko1 rfl
  refine ep_calli0 (va_runV (As := [.int x1, .int x2, .int (iI 0)]) (rest := []) ⟨hx, hb, hml, hown, hts⟩ (metX5_other l G h a0 x1 x2 (iI 0) eo1) (cwV 3 hts (lw_V q422 q424 qs10 q91 q425) rfl rfl rfl hdX5_other ⟨Nat.le_of_ble_eq_true rfl, Nat.le_of_ble_eq_true rfl⟩) (ep_preV hK hZ hw rfl (ckX5_other eo1)) rfl rfl hl.1 rfl (lv_room (Nat.le_of_ble_eq_true rfl)) dX5_number_4 ⟨Nat.le_of_ble_eq_true rfl, Nat.le_of_ble_eq_true rfl⟩) hw (fun H locs hw => ?_)
  cases hf
theorem hdX5_echoOf : yX5_echoOf.cls = RX5 ∧ yX5_echoOf.cls ≠ "java/lang/invoke/MethodHandle" ∧ yX5_echoOf.cls ≠ "java/lang/invoke/VarHandle" ∧ (parseMethodDescriptor yX5_echoOf.desc).map (fun d => d.parameters.length) = some 1 := by decide +kernel
theorem ckX5_echoOf {h : Hp} {a0 : Nat} {x1 : Int32} {res : Thr ⊕ (Hp)} (hf : fX5_echoOf h a0 x1 = some res) : ep_cls h a0 = some 5 := by
  unfold fX5_echoOf at hf
  exact (oi_c hf).1
abbrev wX5_echoOf (p : Program) (l : Launch) (e : Env) (s : State) (m : MethodId) (below : List Frame) (meth : Method) (c : Code) (G : EG) (h : Hp) (a0 : Nat) (x1 : Int32) (res : Hp) (k9 n9 : Nat) (H : Heap) (locs : List Loc) (g : JFrame) : Prop := W p l e (headSpec (ws_ yX5_echoOf cX5_echoOf 3 none) ({ frames := 9, cells := 0, slots := 0, locals := 203 } : Room)).room s m ([.ref a0, .int x1] : List Value).toArray below meth c H locs k9 n9 (MQ below (ep_Qv G ep_cl res) ([.ref a0, .int x1] : List Value).toArray s 0 0 (ep_A G)) g
set_option maxHeartbeats 4000000 in
theorem metX5_echoOf (l : Launch) (G : EG) (h : Hp) (a0 : Nat) (x1 : Int32) {res : Hp} (hf : fX5_echoOf h a0 x1 = some (.inr res)) : Met l yX5_echoOf (ws_ yX5_echoOf cX5_echoOf 3 none) ({ frames := 9, cells := 0, slots := 0, locals := 203 } : Room) (ep_Pc G ep_cl h [.ref a0, .int x1]) (ep_Qv G ep_cl res) 0 0 (ep_A G) := by
  refine Met.ofW (cc := cX5_echoOf) (maxL := 3) (ret := none) (by decide) rfl ?_
  intro p e s m args below meth c s₁ B hml hv
  obtain ⟨rfl, hR, hK, hZ⟩ := hv
  have hx := B.exec
  have hb := B.bytes
  have hr := B.returns
  have hlocks := B.notSynchronized
  have hts := atoms_spec (ws := (ws_ yX5_echoOf cX5_echoOf 3 none)) B.pre
  have hts : ∀ w ∈ lw_all, w.before _ s = true := fun w h => hts w (List.mem_cons_of_mem _ h)
  have hown : s.vm.findClass RX5 = some m.cls := findClass_of_methodNamed B.named
  have hw : ep_W G ep_cl h s s.heap [] := ⟨hR, va_S.rf⟩
  have hl := lv_entry ([.ref a0, .int x1]) (n := 3) (Nat.le_of_ble_eq_true rfl)
  rw [lg_entry_eq]
  generalize (lg_sl ([.ref a0, .int x1]) ++ List.replicate (3 - (lg_sl ([.ref a0, .int x1])).length) Slot.unset).toArray = ls at hl ⊢
  have hl : lv_has ls 3 [(0, .ref a0), (1, .int x1)] := hl
  unfold fX5_echoOf at hf
  have hf := (oi_c hf).2
  show wX5_echoOf p l e s m below meth c G h a0 x1 res 0 0 s.heap ([]) (F0 m 0 ls [])
  refine lv_aload_n hx hb dX5_echoOf_0 rfl (lv_at hl 0 rfl) ?_
  refine lv_aload_n hx hb dX5_echoOf_1 rfl (lv_at hl 0 rfl) ?_
  obtain ⟨r1, er1, hf⟩ := ob_s hf
  refine ep_get (C := RX5) (T := TX5) (N := 11) (ci := 5) hx hb hts in_X5 hown hK hw rfl 1 (by decide) q309 (gR_f er1) dX5_echoOf_2 ?_
  obtain ⟨v2, ev2, hf⟩ := ob_s hf
  refine ep_getN (C := RX1) (T := TX1) (N := 11) (ci := 1) hx hb hts in_X1 hown hK hw rfl 7 (by decide) q168 (gI_f ev2) dX5_echoOf_5 ?_
  refine lv_iconst (v := iI 5) hx hb dX5_echoOf_8 rfl ?_
  have hJ3 : wX5_echoOf p l e s m below meth c G h a0 x1 res 0 0 s.heap ([]) (F0 m 17 ls [.int (if (iI 5) ≤ v2 then iI 0 else iI 1), .ref a0]) := by
    refine lv_iconst (v := iI 5) hx hb dX5_echoOf_17 rfl ?_
    obtain ⟨zo5, eo5, hko5⟩ := orL_s hf
    rcases zo5 with xo5 | o5
    · have hf := orL_1 hko5 rfl
      cases hf
    have hf := orL_2 hko5 rfl
    refine ep_callv0 (va_runV (As := [.int (if (iI 5) ≤ v2 then iI 0 else iI 1), .int (iI 5)]) (rest := []) ⟨hx, hb, hml, hown, hts⟩ (metX5_must l G h a0 (if (iI 5) ≤ v2 then iI 0 else iI 1) (iI 5) eo5) (cwV 2 hts (lw_V q215 q217 qs2 q91 q218) rfl rfl rfl hdX5_must ⟨Nat.le_of_ble_eq_true rfl, Nat.le_of_ble_eq_true rfl⟩) (ep_preV hK hZ hw rfl (ckX5_must eo5)) rfl rfl hl.1 rfl (lv_room (Nat.le_of_ble_eq_true rfl)) dX5_echoOf_18 ⟨Nat.le_of_ble_eq_true rfl, Nat.le_of_ble_eq_true rfl⟩) hw (fun H locs hw => ?_)
    refine lv_aload_n hx hb dX5_echoOf_21 rfl (lv_at hl 0 rfl) ?_
    obtain ⟨zo6, eo6, hko6⟩ := orL_s hf
    rcases zo6 with xo6 | o6
    · have hf := orL_1 hko6 rfl
      cases hf
    have hf := orL_2 hko6 rfl
    refine ep_callv0 (va_runV (As := []) (rest := []) ⟨hx, hb, hml, hown, hts⟩ (metX5_next l G o5 a0 eo6) (cwV 0 hts (lw_V q202 q204 qs0 q91 q205) rfl rfl rfl hdX5_next ⟨Nat.le_of_ble_eq_true rfl, Nat.le_of_ble_eq_true rfl⟩) (ep_preV hK hZ hw rfl (ckX5_next eo6)) rfl rfl hl.1 rfl (lv_room (Nat.le_of_ble_eq_true rfl)) dX5_echoOf_22 ⟨Nat.le_of_ble_eq_true rfl, Nat.le_of_ble_eq_true rfl⟩) hw (fun H locs hw => ?_)
    refine lv_aload_n hx hb dX5_echoOf_25 rfl (lv_at hl 0 rfl) ?_
    obtain ⟨r7, er7, hf⟩ := ob_s hf
    refine ep_get (C := RX5) (T := TX5) (N := 11) (ci := 5) hx hb hts in_X5 hown hK hw rfl 1 (by decide) q309 (gR_f er7) dX5_echoOf_26 ?_
    obtain ⟨v8, ev8, hf⟩ := ob_s hf
    refine ep_getN (C := RX1) (T := TX1) (N := 11) (ci := 1) hx hb hts in_X1 hown hK hw rfl 7 (by decide) q168 (gI_f ev8) dX5_echoOf_29 ?_
    refine lv_istore_n (lv' := [(2, .int v8), (0, .ref a0), (1, .int x1)]) hx hb dX5_echoOf_32 rfl hl (by decide) rfl (fun ls hl => ?_)
    refine lv_aload_n hx hb dX5_echoOf_33 rfl (lv_at hl 1 rfl) ?_
    obtain ⟨r9, er9, hf⟩ := ob_s hf
    refine ep_get (C := RX5) (T := TX5) (N := 11) (ci := 5) hx hb hts in_X5 hown hK hw rfl 1 (by decide) q309 (gR_f er9) dX5_echoOf_34 ?_
    obtain ⟨r10, er10, hf⟩ := ob_s hf
    refine ep_getN (C := RX1) (T := TX1) (N := 11) (ci := 1) hx hb hts in_X1 hown hK hw rfl 2 (by decide) q152 (gR_f er10) dX5_echoOf_37 ?_
    refine lv_iload_n hx hb dX5_echoOf_40 rfl (lv_at hl 0 rfl) ?_
    refine lv_iload_n hx hb dX5_echoOf_41 rfl (lv_at hl 2 rfl) ?_
    obtain ⟨h11, eh11, hf⟩ := ob_s hf
    refine ep_iast hx hb hK hw eh11 dX5_echoOf_42 (fun H locs hw => ?_)
    refine lv_aload_n hx hb dX5_echoOf_43 rfl (lv_at hl 1 rfl) ?_
    obtain ⟨r12, er12, hf⟩ := ob_s hf
    refine ep_get (C := RX5) (T := TX5) (N := 11) (ci := 5) hx hb hts in_X5 hown hK hw rfl 1 (by decide) q309 (gR_f er12) dX5_echoOf_44 ?_
    obtain ⟨r13, er13, hf⟩ := ob_s hf
    refine ep_getN (C := RX1) (T := TX1) (N := 11) (ci := 1) hx hb hts in_X1 hown hK hw rfl 4 (by decide) q158 (gR_f er13) dX5_echoOf_47 ?_
    refine lv_iload_n hx hb dX5_echoOf_50 rfl (lv_at hl 0 rfl) ?_
    refine lv_aload_n hx hb dX5_echoOf_51 rfl (lv_at hl 1 rfl) ?_
    refine lv_aload_n hx hb dX5_echoOf_52 rfl (lv_at hl 1 rfl) ?_
    obtain ⟨r14, er14, hf⟩ := ob_s hf
    refine ep_get (C := RX5) (T := TX5) (N := 11) (ci := 5) hx hb hts in_X5 hown hK hw rfl 1 (by decide) q309 (gR_f er14) dX5_echoOf_53 ?_
    obtain ⟨r15, er15, hf⟩ := ob_s hf
    refine ep_getN (C := RX1) (T := TX1) (N := 11) (ci := 1) hx hb hts in_X1 hown hK hw rfl 3 (by decide) q155 (gR_f er15) dX5_echoOf_56 ?_
    refine lv_iload_n hx hb dX5_echoOf_59 rfl (lv_at hl 0 rfl) ?_
    obtain ⟨v16, ev16, hf⟩ := ob_s hf
    refine ep_aald 4 (by decide) rfl hx hb hK hw ev16 dX5_echoOf_60 ?_
    obtain ⟨zo17, eo17, hko17⟩ := orL_s hf
    rcases zo17 with xo17 | o17
    · have hf := orL_1 hko17 rfl
      cases hf
    have hf := orL_2 hko17 rfl
    refine ep_calli0 (va_runV (As := [.ref v16]) (rest := [.int v8, .ref r13]) ⟨hx, hb, hml, hown, hts⟩ (metX5_wordInto l G h11 a0 v16 eo17) (cwV 1 hts (lw_V q413 q415 qs8 q91 q416) rfl rfl rfl hdX5_wordInto ⟨Nat.le_of_ble_eq_true rfl, Nat.le_of_ble_eq_true rfl⟩) (ep_preV hK hZ hw rfl (ckX5_wordInto eo17)) rfl rfl hl.1 rfl (lv_room (Nat.le_of_ble_eq_true rfl)) dX5_echoOf_61 ⟨Nat.le_of_ble_eq_true rfl, Nat.le_of_ble_eq_true rfl⟩) hw (fun H locs hw => ?_)
    obtain ⟨h18, eh18, hf⟩ := ob_s hf
    refine ep_iast hx hb hK hw eh18 dX5_echoOf_64 (fun H locs hw => ?_)
    refine lv_aload_n hx hb dX5_echoOf_65 rfl (lv_at hl 1 rfl) ?_
    obtain ⟨r19, er19, hf⟩ := ob_s hf
    refine ep_get (C := RX5) (T := TX5) (N := 11) (ci := 5) hx hb hts in_X5 hown hK hw rfl 1 (by decide) q309 (gR_f er19) dX5_echoOf_66 ?_
    obtain ⟨r20, er20, hf⟩ := ob_s hf
    refine ep_getN (C := RX1) (T := TX1) (N := 11) (ci := 1) hx hb hts in_X1 hown hK hw rfl 5 (by decide) q161 (gR_f er20) dX5_echoOf_69 ?_
    refine lv_iload_n hx hb dX5_echoOf_72 rfl (lv_at hl 0 rfl) ?_
    refine lv_aload_n hx hb dX5_echoOf_73 rfl (lv_at hl 1 rfl) ?_
    refine lv_iconst (v := iI 0) hx hb dX5_echoOf_74 rfl ?_
    refine lv_bipush (v := iI 99) hx hb dX5_echoOf_75 (by decide) ?_
    obtain ⟨zo21, eo21, hko21⟩ := orL_s hf
    rcases zo21 with xo21 | o21
    · have hf := orL_1 hko21 rfl
      cases hf
    have hf := orL_2 hko21 rfl
    refine ep_calli0 (va_runV (As := [.int (iI 0), .int (iI 99)]) (rest := [.int v8, .ref r20]) ⟨hx, hb, hml, hown, hts⟩ (metX5_number l G h18 a0 (iI 0) (iI 99) eo21) (cwV 2 hts (lw_V q418 q420 qs9 q91 q421) rfl rfl rfl hdX5_number ⟨Nat.le_of_ble_eq_true rfl, Nat.le_of_ble_eq_true rfl⟩) (ep_preV hK hZ hw rfl (ckX5_number eo21)) rfl rfl hl.1 rfl (lv_room (Nat.le_of_ble_eq_true rfl)) dX5_echoOf_77 ⟨Nat.le_of_ble_eq_true rfl, Nat.le_of_ble_eq_true rfl⟩) hw (fun H locs hw => ?_)
    obtain ⟨h22, eh22, hf⟩ := ob_s hf
    refine ep_iast hx hb hK hw eh22 dX5_echoOf_80 (fun H locs hw => ?_)
    refine lv_aload_n hx hb dX5_echoOf_81 rfl (lv_at hl 1 rfl) ?_
    obtain ⟨r23, er23, hf⟩ := ob_s hf
    refine ep_get (C := RX5) (T := TX5) (N := 11) (ci := 5) hx hb hts in_X5 hown hK hw rfl 1 (by decide) q309 (gR_f er23) dX5_echoOf_82 ?_
    obtain ⟨r24, er24, hf⟩ := ob_s hf
    refine ep_getN (C := RX1) (T := TX1) (N := 11) (ci := 1) hx hb hts in_X1 hown hK hw rfl 6 (by decide) q164 (gR_f er24) dX5_echoOf_85 ?_
    refine lv_iload_n hx hb dX5_echoOf_88 rfl (lv_at hl 0 rfl) ?_
    refine lv_aload_n hx hb dX5_echoOf_89 rfl (lv_at hl 1 rfl) ?_
    refine lv_iconst (v := iI 0) hx hb dX5_echoOf_90 rfl ?_
    refine lv_iconst (v := iI 3) hx hb dX5_echoOf_91 rfl ?_
    obtain ⟨zo25, eo25, hko25⟩ := orL_s hf
    rcases zo25 with xo25 | o25
    · have hf := orL_1 hko25 rfl
      cases hf
    have hf := orL_2 hko25 rfl
    refine ep_calli0 (va_runV (As := [.int (iI 0), .int (iI 3)]) (rest := [.int v8, .ref r24]) ⟨hx, hb, hml, hown, hts⟩ (metX5_number l G h22 a0 (iI 0) (iI 3) eo25) (cwV 2 hts (lw_V q418 q420 qs9 q91 q421) rfl rfl rfl hdX5_number ⟨Nat.le_of_ble_eq_true rfl, Nat.le_of_ble_eq_true rfl⟩) (ep_preV hK hZ hw rfl (ckX5_number eo25)) rfl rfl hl.1 rfl (lv_room (Nat.le_of_ble_eq_true rfl)) dX5_echoOf_92 ⟨Nat.le_of_ble_eq_true rfl, Nat.le_of_ble_eq_true rfl⟩) hw (fun H locs hw => ?_)
    obtain ⟨h26, eh26, hf⟩ := ob_s hf
    refine ep_iast hx hb hK hw eh26 dX5_echoOf_95 (fun H locs hw => ?_)
    refine lv_aload_n hx hb dX5_echoOf_96 rfl (lv_at hl 1 rfl) ?_
    refine lv_aload_n hx hb dX5_echoOf_97 rfl (lv_at hl 1 rfl) ?_
    obtain ⟨v27, ev27, hf⟩ := ob_s hf
    refine ep_get (C := RX5) (T := TX5) (N := 11) (ci := 5) hx hb hts in_X5 hown hK hw rfl 5 (by decide) q317 (gI_f ev27) dX5_echoOf_98 ?_
    refine lv_aload_n hx hb dX5_echoOf_101 rfl (lv_at hl 1 rfl) ?_
    obtain ⟨r28, er28, hf⟩ := ob_s hf
    refine ep_get (C := RX5) (T := TX5) (N := 11) (ci := 5) hx hb hts in_X5 hown hK hw rfl 1 (by decide) q309 (gR_f er28) dX5_echoOf_102 ?_
    obtain ⟨r29, er29, hf⟩ := ob_s hf
    refine ep_getN (C := RX1) (T := TX1) (N := 11) (ci := 1) hx hb hts in_X1 hown hK hw rfl 6 (by decide) q164 (gR_f er29) dX5_echoOf_105 ?_
    refine lv_iload_n hx hb dX5_echoOf_108 rfl (lv_at hl 0 rfl) ?_
    obtain ⟨v30, ev30, hf⟩ := ob_s hf
    refine ep_iald hx hb hK hw ev30 dX5_echoOf_109 ?_
    refine va_mmax hx hb (hml.trans hl.1.symm) hown (hts _ q429) (hts _ q430) (hts _ q100) (hts _ q431) (Nat.le_of_ble_eq_true rfl) (Nat.le_of_ble_eq_true rfl) (Nat.le_of_ble_eq_true rfl) (Nat.le_of_ble_eq_true rfl) dX5_echoOf_110 ?_
    obtain ⟨h31, eh31, hf⟩ := ob_s hf
    refine ep_put (C := RX5) (T := TX5) (N := 11) (ci := 5) hx hb hts in_X5 tyX5 tyX5_ok nmX5 hown hK hw rfl (by decide) 5 (by decide) q317 rfl rfl rfl eh31 dX5_echoOf_113 (fun H locs hw => ?_)
    refine lv_aload_n hx hb dX5_echoOf_116 rfl (lv_at hl 1 rfl) ?_
    obtain ⟨r32, er32, hf⟩ := ob_s hf
    refine ep_get (C := RX5) (T := TX5) (N := 11) (ci := 5) hx hb hts in_X5 hown hK hw rfl 1 (by decide) q309 (gR_f er32) dX5_echoOf_117 ?_
    refine lv_dup hx hb dX5_echoOf_120 rfl ?_
    obtain ⟨v33, ev33, hf⟩ := ob_s hf
    refine ep_getN (C := RX1) (T := TX1) (N := 11) (ci := 1) hx hb hts in_X1 hown hK hw rfl 7 (by decide) q168 (gI_f ev33) dX5_echoOf_121 ?_
    refine lv_iconst (v := iI 1) hx hb dX5_echoOf_124 rfl ?_
    refine lv_iadd hx hb dX5_echoOf_125 ?_
    obtain ⟨h34, eh34, hf⟩ := ob_s hf
    refine ep_putN (C := RX1) (T := TX1) (N := 11) (ci := 1) hx hb hts in_X1 tyX1 tyX1_ok nmX1 hown hK hw rfl (by decide) 7 (by decide) q168 rfl rfl rfl eh34 dX5_echoOf_126 (fun H locs hw => ?_)
    exact ep_retvW hx hb hr hlocks hw (sm_r hf) dX5_echoOf_129
  refine lv_icmp_ge (tgt := 16) hx hb dX5_echoOf_9 (by decide) (fun c4 => ?_) (fun c4 => ?_)
  · refine lv_iconst (v := iI 0) hx hb dX5_echoOf_16 rfl ?_
    rw [if_pos c4] at hJ3
    exact hJ3
  · refine lv_iconst (v := iI 1) hx hb dX5_echoOf_12 rfl ?_
    refine lv_goto (tgt := 17) hx hb dX5_echoOf_13 (by decide) ?_
    rw [if_neg c4] at hJ3
    exact hJ3
abbrev wTX5_echoOf (p : Program) (l : Launch) (e : Env) (s : State) (m : MethodId) (below : List Frame) (meth : Method) (c : Code) (G : EG) (h : Hp) (a0 : Nat) (x1 : Int32) (res : Thr) (k9 n9 : Nat) (H : Heap) (locs : List Loc) (g : JFrame) : Prop := W p l e (headSpec (ws_ yX5_echoOf cX5_echoOf 3 none) ({ frames := 9, cells := 1, slots := 8, locals := 203 } : Room)).room s m ([.ref a0, .int x1] : List Value).toArray below meth c H locs k9 n9 (MQT below (ep_Qt G ep_cl res) ([.ref a0, .int x1] : List Value).toArray s 1 8 (ep_A G)) g
set_option maxHeartbeats 4000000 in
theorem metTX5_echoOf (l : Launch) (G : EG) (h : Hp) (a0 : Nat) (x1 : Int32) {res : Thr} (hf : fX5_echoOf h a0 x1 = some (.inl res)) : MetT l yX5_echoOf (ws_ yX5_echoOf cX5_echoOf 3 none) ({ frames := 9, cells := 1, slots := 8, locals := 203 } : Room) (ep_Pc G ep_cl h [.ref a0, .int x1]) (ep_Qt G ep_cl res) 1 8 (ep_A G) := by
  refine MetT.ofW (cc := cX5_echoOf) (maxL := 3) (ret := none) (by decide) rfl ?_
  intro p e s m args below meth c s₁ B hml hv
  obtain ⟨rfl, hR, hK, hZ⟩ := hv
  have hx := B.exec
  have hb := B.bytes
  have hr := B.returns
  have hlocks := B.notSynchronized
  have hts := atoms_spec (ws := (ws_ yX5_echoOf cX5_echoOf 3 none)) B.pre
  have hno : c.exceptionTable.toList = [] := by
    have h := B.noHandlers (hts _ List.mem_cons_self)
    simpa using h
  have hts : ∀ w ∈ lw_all, w.before _ s = true := fun w h => hts w (List.mem_cons_of_mem _ h)
  have hown : s.vm.findClass RX5 = some m.cls := findClass_of_methodNamed B.named
  have hw : ep_W G ep_cl h s s.heap [] := ⟨hR, va_S.rf⟩
  have hl := lv_entry ([.ref a0, .int x1]) (n := 3) (Nat.le_of_ble_eq_true rfl)
  rw [lg_entry_eq]
  generalize (lg_sl ([.ref a0, .int x1]) ++ List.replicate (3 - (lg_sl ([.ref a0, .int x1])).length) Slot.unset).toArray = ls at hl ⊢
  have hl : lv_has ls 3 [(0, .ref a0), (1, .int x1)] := hl
  unfold fX5_echoOf at hf
  have hf := (oi_c hf).2
  show wTX5_echoOf p l e s m below meth c G h a0 x1 res 0 0 s.heap ([]) (F0 m 0 ls [])
  refine lv_aload_n hx hb dX5_echoOf_0 rfl (lv_at hl 0 rfl) ?_
  refine lv_aload_n hx hb dX5_echoOf_1 rfl (lv_at hl 0 rfl) ?_
  obtain ⟨r1, er1, hf⟩ := ob_s hf
  refine ep_get (C := RX5) (T := TX5) (N := 11) (ci := 5) hx hb hts in_X5 hown hK hw rfl 1 (by decide) q309 (gR_f er1) dX5_echoOf_2 ?_
  obtain ⟨v2, ev2, hf⟩ := ob_s hf
  refine ep_getN (C := RX1) (T := TX1) (N := 11) (ci := 1) hx hb hts in_X1 hown hK hw rfl 7 (by decide) q168 (gI_f ev2) dX5_echoOf_5 ?_
  refine lv_iconst (v := iI 5) hx hb dX5_echoOf_8 rfl ?_
  have hJ3 : wTX5_echoOf p l e s m below meth c G h a0 x1 res 0 0 s.heap ([]) (F0 m 17 ls [.int (if (iI 5) ≤ v2 then iI 0 else iI 1), .ref a0]) := by
    refine lv_iconst (v := iI 5) hx hb dX5_echoOf_17 rfl ?_
    obtain ⟨zo5, eo5, hko5⟩ := orL_s hf
    rcases zo5 with xo5 | o5
    · have hf := orL_1 hko5 rfl
      exact ep_outT' hno hlocks (ep_runVT (As := [.int (if (iI 5) ≤ v2 then iI 0 else iI 1), .int (iI 5)]) (rest := []) ⟨hx, hb, hml, hown, hts⟩ (metTX5_must l G h a0 (if (iI 5) ≤ v2 then iI 0 else iI 1) (iI 5) eo5) (cwV 2 hts (lw_V q215 q217 qs2 q91 q218) rfl rfl rfl hdX5_must ⟨Nat.le_of_ble_eq_true rfl, Nat.le_of_ble_eq_true rfl⟩) (ep_preV hK hZ hw rfl (ckX5_must eo5)) rfl rfl hl.1 rfl (lv_room (Nat.le_of_ble_eq_true rfl)) dX5_echoOf_18 ⟨Nat.le_of_ble_eq_true rfl, Nat.le_of_ble_eq_true rfl⟩) hw hf
    have hf := orL_2 hko5 rfl
    refine ep_callv0 (va_runV (As := [.int (if (iI 5) ≤ v2 then iI 0 else iI 1), .int (iI 5)]) (rest := []) ⟨hx, hb, hml, hown, hts⟩ (metX5_must l G h a0 (if (iI 5) ≤ v2 then iI 0 else iI 1) (iI 5) eo5) (cwV 2 hts (lw_V q215 q217 qs2 q91 q218) rfl rfl rfl hdX5_must ⟨Nat.le_of_ble_eq_true rfl, Nat.le_of_ble_eq_true rfl⟩) (ep_preV hK hZ hw rfl (ckX5_must eo5)) rfl rfl hl.1 rfl (lv_room (Nat.le_of_ble_eq_true rfl)) dX5_echoOf_18 ⟨Nat.le_of_ble_eq_true rfl, Nat.le_of_ble_eq_true rfl⟩) hw (fun H locs hw => ?_)
    refine lv_aload_n hx hb dX5_echoOf_21 rfl (lv_at hl 0 rfl) ?_
    obtain ⟨zo6, eo6, hko6⟩ := orL_s hf
    rcases zo6 with xo6 | o6
    · have hf := orL_1 hko6 rfl
      exact ep_outT' hno hlocks (ep_runVT (As := []) (rest := []) ⟨hx, hb, hml, hown, hts⟩ (metTX5_next l G o5 a0 eo6) (cwV 0 hts (lw_V q202 q204 qs0 q91 q205) rfl rfl rfl hdX5_next ⟨Nat.le_of_ble_eq_true rfl, Nat.le_of_ble_eq_true rfl⟩) (ep_preV hK hZ hw rfl (ckX5_next eo6)) rfl rfl hl.1 rfl (lv_room (Nat.le_of_ble_eq_true rfl)) dX5_echoOf_22 ⟨Nat.le_of_ble_eq_true rfl, Nat.le_of_ble_eq_true rfl⟩) hw hf
    have hf := orL_2 hko6 rfl
    refine ep_callv0 (va_runV (As := []) (rest := []) ⟨hx, hb, hml, hown, hts⟩ (metX5_next l G o5 a0 eo6) (cwV 0 hts (lw_V q202 q204 qs0 q91 q205) rfl rfl rfl hdX5_next ⟨Nat.le_of_ble_eq_true rfl, Nat.le_of_ble_eq_true rfl⟩) (ep_preV hK hZ hw rfl (ckX5_next eo6)) rfl rfl hl.1 rfl (lv_room (Nat.le_of_ble_eq_true rfl)) dX5_echoOf_22 ⟨Nat.le_of_ble_eq_true rfl, Nat.le_of_ble_eq_true rfl⟩) hw (fun H locs hw => ?_)
    refine lv_aload_n hx hb dX5_echoOf_25 rfl (lv_at hl 0 rfl) ?_
    obtain ⟨r7, er7, hf⟩ := ob_s hf
    refine ep_get (C := RX5) (T := TX5) (N := 11) (ci := 5) hx hb hts in_X5 hown hK hw rfl 1 (by decide) q309 (gR_f er7) dX5_echoOf_26 ?_
    obtain ⟨v8, ev8, hf⟩ := ob_s hf
    refine ep_getN (C := RX1) (T := TX1) (N := 11) (ci := 1) hx hb hts in_X1 hown hK hw rfl 7 (by decide) q168 (gI_f ev8) dX5_echoOf_29 ?_
    refine lv_istore_n (lv' := [(2, .int v8), (0, .ref a0), (1, .int x1)]) hx hb dX5_echoOf_32 rfl hl (by decide) rfl (fun ls hl => ?_)
    refine lv_aload_n hx hb dX5_echoOf_33 rfl (lv_at hl 1 rfl) ?_
    obtain ⟨r9, er9, hf⟩ := ob_s hf
    refine ep_get (C := RX5) (T := TX5) (N := 11) (ci := 5) hx hb hts in_X5 hown hK hw rfl 1 (by decide) q309 (gR_f er9) dX5_echoOf_34 ?_
    obtain ⟨r10, er10, hf⟩ := ob_s hf
    refine ep_getN (C := RX1) (T := TX1) (N := 11) (ci := 1) hx hb hts in_X1 hown hK hw rfl 2 (by decide) q152 (gR_f er10) dX5_echoOf_37 ?_
    refine lv_iload_n hx hb dX5_echoOf_40 rfl (lv_at hl 0 rfl) ?_
    refine lv_iload_n hx hb dX5_echoOf_41 rfl (lv_at hl 2 rfl) ?_
    obtain ⟨h11, eh11, hf⟩ := ob_s hf
    refine ep_iast hx hb hK hw eh11 dX5_echoOf_42 (fun H locs hw => ?_)
    refine lv_aload_n hx hb dX5_echoOf_43 rfl (lv_at hl 1 rfl) ?_
    obtain ⟨r12, er12, hf⟩ := ob_s hf
    refine ep_get (C := RX5) (T := TX5) (N := 11) (ci := 5) hx hb hts in_X5 hown hK hw rfl 1 (by decide) q309 (gR_f er12) dX5_echoOf_44 ?_
    obtain ⟨r13, er13, hf⟩ := ob_s hf
    refine ep_getN (C := RX1) (T := TX1) (N := 11) (ci := 1) hx hb hts in_X1 hown hK hw rfl 4 (by decide) q158 (gR_f er13) dX5_echoOf_47 ?_
    refine lv_iload_n hx hb dX5_echoOf_50 rfl (lv_at hl 0 rfl) ?_
    refine lv_aload_n hx hb dX5_echoOf_51 rfl (lv_at hl 1 rfl) ?_
    refine lv_aload_n hx hb dX5_echoOf_52 rfl (lv_at hl 1 rfl) ?_
    obtain ⟨r14, er14, hf⟩ := ob_s hf
    refine ep_get (C := RX5) (T := TX5) (N := 11) (ci := 5) hx hb hts in_X5 hown hK hw rfl 1 (by decide) q309 (gR_f er14) dX5_echoOf_53 ?_
    obtain ⟨r15, er15, hf⟩ := ob_s hf
    refine ep_getN (C := RX1) (T := TX1) (N := 11) (ci := 1) hx hb hts in_X1 hown hK hw rfl 3 (by decide) q155 (gR_f er15) dX5_echoOf_56 ?_
    refine lv_iload_n hx hb dX5_echoOf_59 rfl (lv_at hl 0 rfl) ?_
    obtain ⟨v16, ev16, hf⟩ := ob_s hf
    refine ep_aald 4 (by decide) rfl hx hb hK hw ev16 dX5_echoOf_60 ?_
    obtain ⟨zo17, eo17, hko17⟩ := orL_s hf
    rcases zo17 with xo17 | o17
    · have hf := orL_1 hko17 rfl
      exact ep_outT' hno hlocks (ep_runVT (As := [.ref v16]) (rest := [.int v8, .ref r13]) ⟨hx, hb, hml, hown, hts⟩ (metTX5_wordInto l G h11 a0 v16 eo17) (cwV 1 hts (lw_V q413 q415 qs8 q91 q416) rfl rfl rfl hdX5_wordInto ⟨Nat.le_of_ble_eq_true rfl, Nat.le_of_ble_eq_true rfl⟩) (ep_preV hK hZ hw rfl (ckX5_wordInto eo17)) rfl rfl hl.1 rfl (lv_room (Nat.le_of_ble_eq_true rfl)) dX5_echoOf_61 ⟨Nat.le_of_ble_eq_true rfl, Nat.le_of_ble_eq_true rfl⟩) hw hf
    have hf := orL_2 hko17 rfl
    refine ep_calli0 (va_runV (As := [.ref v16]) (rest := [.int v8, .ref r13]) ⟨hx, hb, hml, hown, hts⟩ (metX5_wordInto l G h11 a0 v16 eo17) (cwV 1 hts (lw_V q413 q415 qs8 q91 q416) rfl rfl rfl hdX5_wordInto ⟨Nat.le_of_ble_eq_true rfl, Nat.le_of_ble_eq_true rfl⟩) (ep_preV hK hZ hw rfl (ckX5_wordInto eo17)) rfl rfl hl.1 rfl (lv_room (Nat.le_of_ble_eq_true rfl)) dX5_echoOf_61 ⟨Nat.le_of_ble_eq_true rfl, Nat.le_of_ble_eq_true rfl⟩) hw (fun H locs hw => ?_)
    obtain ⟨h18, eh18, hf⟩ := ob_s hf
    refine ep_iast hx hb hK hw eh18 dX5_echoOf_64 (fun H locs hw => ?_)
    refine lv_aload_n hx hb dX5_echoOf_65 rfl (lv_at hl 1 rfl) ?_
    obtain ⟨r19, er19, hf⟩ := ob_s hf
    refine ep_get (C := RX5) (T := TX5) (N := 11) (ci := 5) hx hb hts in_X5 hown hK hw rfl 1 (by decide) q309 (gR_f er19) dX5_echoOf_66 ?_
    obtain ⟨r20, er20, hf⟩ := ob_s hf
    refine ep_getN (C := RX1) (T := TX1) (N := 11) (ci := 1) hx hb hts in_X1 hown hK hw rfl 5 (by decide) q161 (gR_f er20) dX5_echoOf_69 ?_
    refine lv_iload_n hx hb dX5_echoOf_72 rfl (lv_at hl 0 rfl) ?_
    refine lv_aload_n hx hb dX5_echoOf_73 rfl (lv_at hl 1 rfl) ?_
    refine lv_iconst (v := iI 0) hx hb dX5_echoOf_74 rfl ?_
    refine lv_bipush (v := iI 99) hx hb dX5_echoOf_75 (by decide) ?_
    obtain ⟨zo21, eo21, hko21⟩ := orL_s hf
    rcases zo21 with xo21 | o21
    · have hf := orL_1 hko21 rfl
      exact ep_outT' hno hlocks (ep_runVT (As := [.int (iI 0), .int (iI 99)]) (rest := [.int v8, .ref r20]) ⟨hx, hb, hml, hown, hts⟩ (metTX5_number l G h18 a0 (iI 0) (iI 99) eo21) (cwV 2 hts (lw_V q418 q420 qs9 q91 q421) rfl rfl rfl hdX5_number ⟨Nat.le_of_ble_eq_true rfl, Nat.le_of_ble_eq_true rfl⟩) (ep_preV hK hZ hw rfl (ckX5_number eo21)) rfl rfl hl.1 rfl (lv_room (Nat.le_of_ble_eq_true rfl)) dX5_echoOf_77 ⟨Nat.le_of_ble_eq_true rfl, Nat.le_of_ble_eq_true rfl⟩) hw hf
    have hf := orL_2 hko21 rfl
    refine ep_calli0 (va_runV (As := [.int (iI 0), .int (iI 99)]) (rest := [.int v8, .ref r20]) ⟨hx, hb, hml, hown, hts⟩ (metX5_number l G h18 a0 (iI 0) (iI 99) eo21) (cwV 2 hts (lw_V q418 q420 qs9 q91 q421) rfl rfl rfl hdX5_number ⟨Nat.le_of_ble_eq_true rfl, Nat.le_of_ble_eq_true rfl⟩) (ep_preV hK hZ hw rfl (ckX5_number eo21)) rfl rfl hl.1 rfl (lv_room (Nat.le_of_ble_eq_true rfl)) dX5_echoOf_77 ⟨Nat.le_of_ble_eq_true rfl, Nat.le_of_ble_eq_true rfl⟩) hw (fun H locs hw => ?_)
    obtain ⟨h22, eh22, hf⟩ := ob_s hf
    refine ep_iast hx hb hK hw eh22 dX5_echoOf_80 (fun H locs hw => ?_)
    refine lv_aload_n hx hb dX5_echoOf_81 rfl (lv_at hl 1 rfl) ?_
    obtain ⟨r23, er23, hf⟩ := ob_s hf
    refine ep_get (C := RX5) (T := TX5) (N := 11) (ci := 5) hx hb hts in_X5 hown hK hw rfl 1 (by decide) q309 (gR_f er23) dX5_echoOf_82 ?_
    obtain ⟨r24, er24, hf⟩ := ob_s hf
    refine ep_getN (C := RX1) (T := TX1) (N := 11) (ci := 1) hx hb hts in_X1 hown hK hw rfl 6 (by decide) q164 (gR_f er24) dX5_echoOf_85 ?_
    refine lv_iload_n hx hb dX5_echoOf_88 rfl (lv_at hl 0 rfl) ?_
    refine lv_aload_n hx hb dX5_echoOf_89 rfl (lv_at hl 1 rfl) ?_
    refine lv_iconst (v := iI 0) hx hb dX5_echoOf_90 rfl ?_
    refine lv_iconst (v := iI 3) hx hb dX5_echoOf_91 rfl ?_
    obtain ⟨zo25, eo25, hko25⟩ := orL_s hf
    rcases zo25 with xo25 | o25
    · have hf := orL_1 hko25 rfl
      exact ep_outT' hno hlocks (ep_runVT (As := [.int (iI 0), .int (iI 3)]) (rest := [.int v8, .ref r24]) ⟨hx, hb, hml, hown, hts⟩ (metTX5_number l G h22 a0 (iI 0) (iI 3) eo25) (cwV 2 hts (lw_V q418 q420 qs9 q91 q421) rfl rfl rfl hdX5_number ⟨Nat.le_of_ble_eq_true rfl, Nat.le_of_ble_eq_true rfl⟩) (ep_preV hK hZ hw rfl (ckX5_number eo25)) rfl rfl hl.1 rfl (lv_room (Nat.le_of_ble_eq_true rfl)) dX5_echoOf_92 ⟨Nat.le_of_ble_eq_true rfl, Nat.le_of_ble_eq_true rfl⟩) hw hf
    have hf := orL_2 hko25 rfl
    refine ep_calli0 (va_runV (As := [.int (iI 0), .int (iI 3)]) (rest := [.int v8, .ref r24]) ⟨hx, hb, hml, hown, hts⟩ (metX5_number l G h22 a0 (iI 0) (iI 3) eo25) (cwV 2 hts (lw_V q418 q420 qs9 q91 q421) rfl rfl rfl hdX5_number ⟨Nat.le_of_ble_eq_true rfl, Nat.le_of_ble_eq_true rfl⟩) (ep_preV hK hZ hw rfl (ckX5_number eo25)) rfl rfl hl.1 rfl (lv_room (Nat.le_of_ble_eq_true rfl)) dX5_echoOf_92 ⟨Nat.le_of_ble_eq_true rfl, Nat.le_of_ble_eq_true rfl⟩) hw (fun H locs hw => ?_)
    obtain ⟨h26, eh26, hf⟩ := ob_s hf
    refine ep_iast hx hb hK hw eh26 dX5_echoOf_95 (fun H locs hw => ?_)
    refine lv_aload_n hx hb dX5_echoOf_96 rfl (lv_at hl 1 rfl) ?_
    refine lv_aload_n hx hb dX5_echoOf_97 rfl (lv_at hl 1 rfl) ?_
    obtain ⟨v27, ev27, hf⟩ := ob_s hf
    refine ep_get (C := RX5) (T := TX5) (N := 11) (ci := 5) hx hb hts in_X5 hown hK hw rfl 5 (by decide) q317 (gI_f ev27) dX5_echoOf_98 ?_
    refine lv_aload_n hx hb dX5_echoOf_101 rfl (lv_at hl 1 rfl) ?_
    obtain ⟨r28, er28, hf⟩ := ob_s hf
    refine ep_get (C := RX5) (T := TX5) (N := 11) (ci := 5) hx hb hts in_X5 hown hK hw rfl 1 (by decide) q309 (gR_f er28) dX5_echoOf_102 ?_
    obtain ⟨r29, er29, hf⟩ := ob_s hf
    refine ep_getN (C := RX1) (T := TX1) (N := 11) (ci := 1) hx hb hts in_X1 hown hK hw rfl 6 (by decide) q164 (gR_f er29) dX5_echoOf_105 ?_
    refine lv_iload_n hx hb dX5_echoOf_108 rfl (lv_at hl 0 rfl) ?_
    obtain ⟨v30, ev30, hf⟩ := ob_s hf
    refine ep_iald hx hb hK hw ev30 dX5_echoOf_109 ?_
    refine va_mmax hx hb (hml.trans hl.1.symm) hown (hts _ q429) (hts _ q430) (hts _ q100) (hts _ q431) (Nat.le_of_ble_eq_true rfl) (Nat.le_of_ble_eq_true rfl) (Nat.le_of_ble_eq_true rfl) (Nat.le_of_ble_eq_true rfl) dX5_echoOf_110 ?_
    obtain ⟨h31, eh31, hf⟩ := ob_s hf
    refine ep_put (C := RX5) (T := TX5) (N := 11) (ci := 5) hx hb hts in_X5 tyX5 tyX5_ok nmX5 hown hK hw rfl (by decide) 5 (by decide) q317 rfl rfl rfl eh31 dX5_echoOf_113 (fun H locs hw => ?_)
    refine lv_aload_n hx hb dX5_echoOf_116 rfl (lv_at hl 1 rfl) ?_
    obtain ⟨r32, er32, hf⟩ := ob_s hf
    refine ep_get (C := RX5) (T := TX5) (N := 11) (ci := 5) hx hb hts in_X5 hown hK hw rfl 1 (by decide) q309 (gR_f er32) dX5_echoOf_117 ?_
    refine lv_dup hx hb dX5_echoOf_120 rfl ?_
    obtain ⟨v33, ev33, hf⟩ := ob_s hf
    refine ep_getN (C := RX1) (T := TX1) (N := 11) (ci := 1) hx hb hts in_X1 hown hK hw rfl 7 (by decide) q168 (gI_f ev33) dX5_echoOf_121 ?_
    refine lv_iconst (v := iI 1) hx hb dX5_echoOf_124 rfl ?_
    refine lv_iadd hx hb dX5_echoOf_125 ?_
    obtain ⟨h34, eh34, hf⟩ := ob_s hf
    refine ep_putN (C := RX1) (T := TX1) (N := 11) (ci := 1) hx hb hts in_X1 tyX1 tyX1_ok nmX1 hown hK hw rfl (by decide) 7 (by decide) q168 rfl rfl rfl eh34 dX5_echoOf_126 (fun H locs hw => ?_)
    cases hf
  refine lv_icmp_ge (tgt := 16) hx hb dX5_echoOf_9 (by decide) (fun c4 => ?_) (fun c4 => ?_)
  · refine lv_iconst (v := iI 0) hx hb dX5_echoOf_16 rfl ?_
    rw [if_pos c4] at hJ3
    exact hJ3
  · refine lv_iconst (v := iI 1) hx hb dX5_echoOf_12 rfl ?_
    refine lv_goto (tgt := 17) hx hb dX5_echoOf_13 (by decide) ?_
    rw [if_neg c4] at hJ3
    exact hJ3
theorem hsJ4_canEncode : yJ4_canEncode.cls ≠ "java/lang/invoke/MethodHandle" ∧ yJ4_canEncode.cls ≠ "java/lang/invoke/VarHandle" ∧ (parseMethodDescriptor yJ4_canEncode.desc).map (fun d => d.parameters.length) = some 1 := by decide +kernel
abbrev wJ4_canEncode (p : Program) (l : Launch) (e : Env) (s : State) (m : MethodId) (below : List Frame) (meth : Method) (c : Code) (G : EG) (h : Hp) (x0 : Int32) (res : Int32) (k9 n9 : Nat) (H : Heap) (locs : List Loc) (g : JFrame) : Prop := W p l e (headSpec (ws_ yJ4_canEncode cJ4_canEncode 1 (some .boolean)) ({ frames := 0, cells := 0, slots := 0, locals := 0 } : Room)).room s m ([.int x0] : List Value).toArray below meth c H locs k9 n9 (MQ below (ep_Qi G ep_cl h res) ([.int x0] : List Value).toArray s 0 0 (ep_A G)) g
set_option maxHeartbeats 4000000 in
theorem metJ4_canEncode (l : Launch) (G : EG) (h : Hp) (x0 : Int32) {res : Int32} (hf : fJ4_canEncode x0 = some res) : Met l yJ4_canEncode (ws_ yJ4_canEncode cJ4_canEncode 1 (some .boolean)) ({ frames := 0, cells := 0, slots := 0, locals := 0 } : Room) (ep_Pc G ep_cl h [.int x0]) (ep_Qi G ep_cl h res) 0 0 (ep_A G) := by
  refine Met.ofW (cc := cJ4_canEncode) (maxL := 1) (ret := (some .boolean)) (by decide) rfl ?_
  intro p e s m args below meth c s₁ B hml hv
  obtain ⟨rfl, hR, hK, hZ⟩ := hv
  have hx := B.exec
  have hb := B.bytes
  have hr := B.returns
  have hlocks := B.notSynchronized
  have hts := atoms_spec (ws := (ws_ yJ4_canEncode cJ4_canEncode 1 (some .boolean))) B.pre
  have hts : ∀ w ∈ lw_all, w.before _ s = true := fun w h => hts w (List.mem_cons_of_mem _ h)
  have hown : s.vm.findClass RJ4 = some m.cls := findClass_of_methodNamed B.named
  have hw : ep_W G ep_cl h s s.heap [] := ⟨hR, va_S.rf⟩
  have hl := lv_entry ([.int x0]) (n := 1) (Nat.le_of_ble_eq_true rfl)
  rw [lg_entry_eq]
  generalize (lg_sl ([.int x0]) ++ List.replicate (1 - (lg_sl ([.int x0])).length) Slot.unset).toArray = ls at hl ⊢
  have hl : lv_has ls 1 [(0, .int x0)] := hl
  unfold fJ4_canEncode at hf
  show wJ4_canEncode p l e s m below meth c G h x0 res 0 0 s.heap ([]) (F0 m 0 ls [])
  refine lv_iload_n hx hb dJ4_canEncode_0 rfl (lv_at hl 0 rfl) ?_
  refine lv_if_lt (tgt := 15) hx hb dJ4_canEncode_1 (by decide) (fun c1 => ?_) (fun c1 => ?_)
  · have hf := oi_t hf c1
    refine lv_iconst (v := iI 0) hx hb dJ4_canEncode_15 rfl ?_
    exact ep_retzR hx hb hr rfl hlocks hw hf dJ4_canEncode_16
  · have hf := oi_f hf c1
    refine lv_iload_n hx hb dJ4_canEncode_4 rfl (lv_at hl 0 rfl) ?_
    refine lv_sipush (v := iI 255) hx hb dJ4_canEncode_5 (by decide) ?_
    refine lv_icmp_gt (tgt := 15) hx hb dJ4_canEncode_8 (by decide) (fun c2 => ?_) (fun c2 => ?_)
    · have hf := oi_t hf c2
      refine lv_iconst (v := iI 0) hx hb dJ4_canEncode_15 rfl ?_
      exact ep_retzR hx hb hr rfl hlocks hw hf dJ4_canEncode_16
    · have hf := oi_f hf c2
      refine lv_iconst (v := iI 1) hx hb dJ4_canEncode_11 rfl ?_
      refine lv_goto (tgt := 16) hx hb dJ4_canEncode_12 (by decide) ?_
      exact ep_retzR hx hb hr rfl hlocks hw hf dJ4_canEncode_16
theorem hsJ4_indexOfChar : yJ4_indexOfChar.cls ≠ "java/lang/invoke/MethodHandle" ∧ yJ4_indexOfChar.cls ≠ "java/lang/invoke/VarHandle" ∧ (parseMethodDescriptor yJ4_indexOfChar.desc).map (fun d => d.parameters.length) = some 4 := by decide +kernel
abbrev wJ4_indexOfChar (p : Program) (l : Launch) (e : Env) (s : State) (m : MethodId) (below : List Frame) (meth : Method) (c : Code) (G : EG) (h : Hp) (k0 : Nat) (x1 : Int32) (x2 : Int32) (x3 : Int32) (res : Int32) (k9 n9 : Nat) (H : Heap) (locs : List Loc) (g : JFrame) : Prop := W p l e (headSpec (ws_ yJ4_indexOfChar cJ4_indexOfChar 6 (some .int)) ({ frames := 0, cells := 0, slots := 0, locals := 0 } : Room)).room s m ([.ref (G.2.2.2 (20 + k0)), .int x1, .int x2, .int x3] : List Value).toArray below meth c H locs k9 n9 (MQ below (ep_Qi G ep_cl h res) ([.ref (G.2.2.2 (20 + k0)), .int x1, .int x2, .int x3] : List Value).toArray s 0 0 (ep_A G)) g
set_option maxHeartbeats 4000000 in
theorem metJ4_indexOfChar (l : Launch) (G : EG) (h : Hp) (k0 : Nat) (x1 : Int32) (x2 : Int32) (x3 : Int32) {res : Int32} (hf : fJ4_indexOfChar k0 x1 x2 x3 = some res) : Met l yJ4_indexOfChar (ws_ yJ4_indexOfChar cJ4_indexOfChar 6 (some .int)) ({ frames := 0, cells := 0, slots := 0, locals := 0 } : Room) (ep_Pc G ep_cl h [.ref (G.2.2.2 (20 + k0)), .int x1, .int x2, .int x3]) (ep_Qi G ep_cl h res) 0 0 (ep_A G) := by
  refine Met.ofW (cc := cJ4_indexOfChar) (maxL := 6) (ret := (some .int)) (by decide) rfl ?_
  intro p e s m args below meth c s₁ B hml hv
  obtain ⟨rfl, hR, hK, hZ⟩ := hv
  have hx := B.exec
  have hb := B.bytes
  have hr := B.returns
  have hlocks := B.notSynchronized
  have hts := atoms_spec (ws := (ws_ yJ4_indexOfChar cJ4_indexOfChar 6 (some .int))) B.pre
  have hts : ∀ w ∈ lw_all, w.before _ s = true := fun w h => hts w (List.mem_cons_of_mem _ h)
  have hown : s.vm.findClass RJ4 = some m.cls := findClass_of_methodNamed B.named
  have hw : ep_W G ep_cl h s s.heap [] := ⟨hR, va_S.rf⟩
  have hl := lv_entry ([.ref (G.2.2.2 (20 + k0)), .int x1, .int x2, .int x3]) (n := 6) (Nat.le_of_ble_eq_true rfl)
  rw [lg_entry_eq]
  generalize (lg_sl ([.ref (G.2.2.2 (20 + k0)), .int x1, .int x2, .int x3]) ++ List.replicate (6 - (lg_sl ([.ref (G.2.2.2 (20 + k0)), .int x1, .int x2, .int x3])).length) Slot.unset).toArray = ls at hl ⊢
  have hl : lv_has ls 6 [(0, .ref (G.2.2.2 (20 + k0))), (1, .int x1), (2, .int x2), (3, .int x3)] := hl
  unfold fJ4_indexOfChar at hf
  show wJ4_indexOfChar p l e s m below meth c G h k0 x1 x2 x3 res 0 0 s.heap ([]) (F0 m 0 ls [])
  refine lv_iload_n hx hb dJ4_indexOfChar_0 rfl (lv_at hl 1 rfl) ?_
  refine lv_i2b (v := x1.toInt8.toInt32) hx hb dJ4_indexOfChar_1 rfl ?_
  refine lv_istore (lv' := [(4, .int x1.toInt8.toInt32), (0, .ref (G.2.2.2 (20 + k0))), (1, .int x1), (2, .int x2), (3, .int x3)]) hx hb dJ4_indexOfChar_2 hl (by decide) rfl (fun ls hl => ?_)
  refine lv_iload_n hx hb dJ4_indexOfChar_4 rfl (lv_at hl 3 rfl) ?_
  refine lv_istore (lv' := [(5, .int x2), (4, .int x1.toInt8.toInt32), (0, .ref (G.2.2.2 (20 + k0))), (1, .int x1), (2, .int x2), (3, .int x3)]) hx hb dJ4_indexOfChar_5 hl (by decide) rfl (fun ls hl => ?_)
  obtain ⟨ox1, ho1, hk1⟩ := orL_s hf
  have hT1 : ∀ r, ox1 = .inl r → some r = some res := fun r eo => (by have e := orL_1 hk1 eo; exact e)
  have hJ1 : ∀ o1, ox1 = .inr o1 → ∀ (H : Heap) (locs : List Loc) (ls : Array Slot), ep_W G ep_cl h s H locs → lv_has ls 6 [] → wJ4_indexOfChar p l e s m below meth c G h k0 x1 x2 x3 res 0 0 H locs (F0 m 31 ls []) := by
    intro o1 eo H locs ls hw hl
    have hf := orL_2 hk1 eo
    refine lv_iconst (v := iI (-1)) hx hb dJ4_indexOfChar_31 rfl ?_
    exact ep_retiR hx hb hr hlocks hw hf dJ4_indexOfChar_32
  have hL1 : ∀ (fu : Nat) (x5 : Int32), fJ4_indexOfChar_L7 k0 x3 x1.toInt8.toInt32 fu x5 = some ox1 → ∀ (H : Heap) (locs : List Loc) (ls : Array Slot), ep_W G ep_cl h s H locs → lv_has ls 6 [(0, .ref (G.2.2.2 (20 + k0))), (3, .int x3), (4, .int x1.toInt8.toInt32), (5, .int x5)] → wJ4_indexOfChar p l e s m below meth c G h k0 x1 x2 x3 res 0 0 H locs (F0 m 7 ls []) := by
    intro fu
    induction fu with
    | zero => intro x5 ho1; cases ho1
    | succ fu ih1 =>
      intro x5 ho1 H locs ls hw hl
      rw [fJ4_indexOfChar_L7] at ho1
      refine lv_iload hx hb dJ4_indexOfChar_7 (lv_at hl 3 rfl) ?_
      refine lv_iload_n hx hb dJ4_indexOfChar_9 rfl (lv_at hl 1 rfl) ?_
      refine lv_icmp_ge (tgt := 31) hx hb dJ4_indexOfChar_10 (by decide) (fun c2 => ?_) (fun c2 => ?_)
      · have ho1 := oi_t ho1 c2
        exact hJ1 _ (Option.some.inj ho1).symm _ _ _ hw (lv_sub hl [] rfl)
      · have ho1 := oi_f ho1 c2
        refine lv_aload_n hx hb dJ4_indexOfChar_13 rfl (lv_at hl 0 rfl) ?_
        refine lv_iload hx hb dJ4_indexOfChar_14 (lv_at hl 3 rfl) ?_
        obtain ⟨v3, ev3, ho1⟩ := ob_s ho1
        refine ep_sbyt hx hb hZ hw ev3 dJ4_indexOfChar_16 ?_
        refine lv_iload hx hb dJ4_indexOfChar_17 (lv_at hl 2 rfl) ?_
        refine lv_icmp_ne (tgt := 25) hx hb dJ4_indexOfChar_19 (by decide) (fun c4 => ?_) (fun c4 => ?_)
        · have ho1 := oi_f ho1 c4
          refine lv_iinc (v := (x5 + iI 1)) (lv' := [(5, .int (x5 + iI 1)), (0, .ref (G.2.2.2 (20 + k0))), (3, .int x3), (4, .int x1.toInt8.toInt32)]) hx hb dJ4_indexOfChar_25 hl (k := 3) rfl rfl (by decide) rfl (fun ls hl => ?_)
          refine lv_goto (tgt := 7) hx hb dJ4_indexOfChar_28 (by decide) ?_
          exact ih1 _ ho1 _ _ _ hw (lv_sub hl [1, 2, 3, 0] rfl)
        · have ho1 := oi_t ho1 c4
          refine lv_iload hx hb dJ4_indexOfChar_22 (lv_at hl 3 rfl) ?_
          exact ep_retiR hx hb hr hlocks hw (hT1 _ (Option.some.inj ho1).symm) dJ4_indexOfChar_24
  exact hL1 FUEL _ ho1 _ _ _ hw (lv_sub hl [2, 5, 1, 0] rfl)
