/-! walks (printed by gen.py) -/
set_option maxRecDepth 100000
theorem hsX4_isPart : yX4_isPart.cls ≠ "java/lang/invoke/MethodHandle" ∧ yX4_isPart.cls ≠ "java/lang/invoke/VarHandle" ∧ (parseMethodDescriptor yX4_isPart.desc).map (fun d => d.parameters.length) = some 1 := by decide +kernel
abbrev wX4_isPart (p : Program) (l : Launch) (e : Env) (s : State) (m : MethodId) (below : List Frame) (meth : Method) (c : Code) (G : EG) (h : Hp) (x0 : Int32) (res : Int32) (k9 n9 : Nat) (H : Heap) (locs : List Loc) (g : JFrame) : Prop := W p l e (headSpec (ws_ yX4_isPart cX4_isPart 1 (some .boolean)) ({ frames := 1, cells := 0, slots := 0, locals := 25 } : Room)).room s m ([.int x0] : List Value).toArray below meth c H locs k9 n9 (MQ below (ep_Qi G ep_cl h res) ([.int x0] : List Value).toArray s 0 0 (ep_A G)) g
set_option maxHeartbeats 4000000 in
theorem metX4_isPart (l : Launch) (G : EG) (h : Hp) (x0 : Int32) {res : Int32} (hf : fX4_isPart x0 = some res) : Met l yX4_isPart (ws_ yX4_isPart cX4_isPart 1 (some .boolean)) ({ frames := 1, cells := 0, slots := 0, locals := 25 } : Room) (ep_Pc G ep_cl h [.int x0]) (ep_Qi G ep_cl h res) 0 0 (ep_A G) := by
  refine Met.ofW (cc := cX4_isPart) (maxL := 1) (ret := (some .boolean)) (by decide) rfl ?_
  intro p e s m args below meth c s₁ B hml hv
  obtain ⟨rfl, hR, hK, hZ⟩ := hv
  have hx := B.exec
  have hb := B.bytes
  have hr := B.returns
  have hlocks := B.notSynchronized
  have hts := atoms_spec (ws := (ws_ yX4_isPart cX4_isPart 1 (some .boolean))) B.pre
  have hts : ∀ w ∈ lw_all, w.before _ s = true := fun w h => hts w (List.mem_cons_of_mem _ h)
  have hown : s.vm.findClass RX4 = some m.cls := findClass_of_methodNamed B.named
  have hw : ep_W G ep_cl h s s.heap [] := ⟨hR, va_S.rf⟩
  have hl := lv_entry ([.int x0]) (n := 1) (Nat.le_of_ble_eq_true rfl)
  rw [lg_entry_eq]
  generalize (lg_sl ([.int x0]) ++ List.replicate (1 - (lg_sl ([.int x0])).length) Slot.unset).toArray = ls at hl ⊢
  have hl : lv_has ls 1 [(0, .int x0)] := hl
  unfold fX4_isPart at hf
  show wX4_isPart p l e s m below meth c G h x0 res 0 0 s.heap ([]) (F0 m 0 ls [])
  refine lv_iload_n hx hb dX4_isPart_0 rfl (lv_at hl 0 rfl) ?_
  refine lv_i2l (v := x0.toInt64) hx hb dX4_isPart_1 rfl ?_
  refine lv_lconst (v := lI 0) hx hb dX4_isPart_2 (by decide) ?_
  refine lv_lconst (v := lI 1) hx hb dX4_isPart_3 (by decide) ?_
  obtain ⟨v1, ev1, hf⟩ := ob_s hf
  refine ep_calli0 (va_runS (As := [.long x0.toInt64, .long (lI 0), .long (lI 1)]) (rest := []) ⟨hx, hb, hml, hown, hts⟩ (metX4_in l G h x0.toInt64 (lI 0) (lI 1) ev1) (va_cwS 3 hts (lw_S q1242 q1243 q89 q1244) rfl rfl rfl hsX4_in ⟨Nat.le_of_ble_eq_true rfl, Nat.le_of_ble_eq_true rfl⟩) (ep_preS hK hZ hw) rfl rfl hl.1 rfl (lv_room (Nat.le_of_ble_eq_true rfl)) dX4_isPart_4 ⟨Nat.le_of_ble_eq_true rfl, Nat.le_of_ble_eq_true rfl⟩) hw (fun H locs hw => ?_)
  obtain ⟨z, ez, hf⟩ := ob_s hf
  obtain ⟨hz, hn⟩ := ckZ_s ez
  rw [hz] at hf
  exact ep_retzR hx hb hr hn hlocks hw hf dX4_isPart_7
theorem hdX4_fence : yX4_fence.cls = RX4 ∧ yX4_fence.cls ≠ "java/lang/invoke/MethodHandle" ∧ yX4_fence.cls ≠ "java/lang/invoke/VarHandle" ∧ (parseMethodDescriptor yX4_fence.desc).map (fun d => d.parameters.length) = some 3 := by decide +kernel
theorem ckX4_fence {h : Hp} {a0 : Nat} {x1 : Int32} {x2 : Int32} {x3 : Int32} {res : Int32 × Hp} (hf : fX4_fence h a0 x1 x2 x3 = some res) : ep_cls h a0 = some 4 := by
  unfold fX4_fence at hf
  exact (oi_c hf).1
abbrev wX4_fence (p : Program) (l : Launch) (e : Env) (s : State) (m : MethodId) (below : List Frame) (meth : Method) (c : Code) (G : EG) (h : Hp) (a0 : Nat) (x1 : Int32) (x2 : Int32) (x3 : Int32) (res : Int32 × Hp) (k9 n9 : Nat) (H : Heap) (locs : List Loc) (g : JFrame) : Prop := W p l e (headSpec (ws_ yX4_fence cX4_fence 4 (some .int)) ({ frames := 2, cells := 0, slots := 0, locals := 46 } : Room)).room s m ([.ref a0, .int x1, .int x2, .int x3] : List Value).toArray below meth c H locs k9 n9 (MQ below (ep_Qi G ep_cl res.2 res.1) ([.ref a0, .int x1, .int x2, .int x3] : List Value).toArray s 0 0 (ep_A G)) g
set_option maxHeartbeats 4000000 in
theorem metX4_fence (l : Launch) (G : EG) (h : Hp) (a0 : Nat) (x1 : Int32) (x2 : Int32) (x3 : Int32) {res : Int32 × Hp} (hf : fX4_fence h a0 x1 x2 x3 = some res) : Met l yX4_fence (ws_ yX4_fence cX4_fence 4 (some .int)) ({ frames := 2, cells := 0, slots := 0, locals := 46 } : Room) (ep_Pc G ep_cl h [.ref a0, .int x1, .int x2, .int x3]) (ep_Qi G ep_cl res.2 res.1) 0 0 (ep_A G) := by
  refine Met.ofW (cc := cX4_fence) (maxL := 4) (ret := (some .int)) (by decide) rfl ?_
  intro p e s m args below meth c s₁ B hml hv
  obtain ⟨rfl, hR, hK, hZ⟩ := hv
  have hx := B.exec
  have hb := B.bytes
  have hr := B.returns
  have hlocks := B.notSynchronized
  have hts := atoms_spec (ws := (ws_ yX4_fence cX4_fence 4 (some .int))) B.pre
  have hts : ∀ w ∈ lw_all, w.before _ s = true := fun w h => hts w (List.mem_cons_of_mem _ h)
  have hown : s.vm.findClass RX4 = some m.cls := findClass_of_methodNamed B.named
  have hw : ep_W G ep_cl h s s.heap [] := ⟨hR, va_S.rf⟩
  have hl := lv_entry ([.ref a0, .int x1, .int x2, .int x3]) (n := 4) (Nat.le_of_ble_eq_true rfl)
  rw [lg_entry_eq]
  generalize (lg_sl ([.ref a0, .int x1, .int x2, .int x3]) ++ List.replicate (4 - (lg_sl ([.ref a0, .int x1, .int x2, .int x3])).length) Slot.unset).toArray = ls at hl ⊢
  have hl : lv_has ls 4 [(0, .ref a0), (1, .int x1), (2, .int x2), (3, .int x3)] := hl
  unfold fX4_fence at hf
  have hf := (oi_c hf).2
  show wX4_fence p l e s m below meth c G h a0 x1 x2 x3 res 0 0 s.heap ([]) (F0 m 0 ls [])
  refine lv_aload_n hx hb dX4_fence_0 rfl (lv_at hl 0 rfl) ?_
  refine lv_iload_n hx hb dX4_fence_1 rfl (lv_at hl 1 rfl) ?_
  obtain ⟨v1, ev1, hf⟩ := ob_s hf
  refine ep_calli0 (va_runV (As := [.int x1]) (rest := []) ⟨hx, hb, hml, hown, hts⟩ (metX4_isPen l G h a0 x1 ev1) (cwV 1 hts (lw_V q1343 q1345 qs53 q89 q1346) rfl rfl rfl hdX4_isPen ⟨Nat.le_of_ble_eq_true rfl, Nat.le_of_ble_eq_true rfl⟩) (ep_preV hK hZ hw rfl (ckX4_isPen ev1)) rfl rfl hl.1 rfl (lv_room (Nat.le_of_ble_eq_true rfl)) dX4_fence_2 ⟨Nat.le_of_ble_eq_true rfl, Nat.le_of_ble_eq_true rfl⟩) hw (fun H locs hw => ?_)
  refine lv_if_eq (tgt := 45) hx hb dX4_fence_5 (by decide) (fun c2 => ?_) (fun c2 => ?_)
  · have hf := oi_t hf c2
    refine lv_iconst (v := iI (-1)) hx hb dX4_fence_45 rfl ?_
    exact ep_retiW hx hb hr hlocks hw hf dX4_fence_46
  · have hf := oi_f hf c2
    refine lv_iload_n hx hb dX4_fence_8 rfl (lv_at hl 2 rfl) ?_
    obtain ⟨v3, ev3, hf⟩ := ob_s hf
    refine ep_calli0 (va_runS (As := [.int x2]) (rest := []) ⟨hx, hb, hml, hown, hts⟩ (metX4_isPart l G h x2 ev3) (va_cwS 1 hts (lw_S q1399 q1400 q89 q1401) rfl rfl rfl hsX4_isPart ⟨Nat.le_of_ble_eq_true rfl, Nat.le_of_ble_eq_true rfl⟩) (ep_preS hK hZ hw) rfl rfl hl.1 rfl (lv_room (Nat.le_of_ble_eq_true rfl)) dX4_fence_9 ⟨Nat.le_of_ble_eq_true rfl, Nat.le_of_ble_eq_true rfl⟩) hw (fun H locs hw => ?_)
    refine lv_if_eq (tgt := 45) hx hb dX4_fence_12 (by decide) (fun c4 => ?_) (fun c4 => ?_)
    · have hf := oi_t hf c4
      refine lv_iconst (v := iI (-1)) hx hb dX4_fence_45 rfl ?_
      exact ep_retiW hx hb hr hlocks hw hf dX4_fence_46
    · have hf := oi_f hf c4
      refine lv_iload_n hx hb dX4_fence_15 rfl (lv_at hl 3 rfl) ?_
      refine lv_i2l (v := x3.toInt64) hx hb dX4_fence_16 rfl ?_
      refine lv_iload_n hx hb dX4_fence_17 rfl (lv_at hl 2 rfl) ?_
      have hJ5 : wX4_fence p l e s m below meth c G h a0 x1 x2 x3 res 0 0 H locs (F0 m 26 ls [.long (if x2 = 0 then lI 1 else lI 0), .long x3.toInt64]) := by
        refine lv_iload_n hx hb dX4_fence_26 rfl (lv_at hl 2 rfl) ?_
        have hJ7 : wX4_fence p l e s m below meth c G h a0 x1 x2 x3 res 0 0 H locs (F0 m 39 ls [.long (if x2 = 0 then (9 : Int64) else (4 : Int64)), .long (if x2 = 0 then lI 1 else lI 0), .long x3.toInt64]) := by
          obtain ⟨v9, ev9, hf⟩ := ob_s hf
          refine ep_calli0 (va_runS (As := [.long x3.toInt64, .long (if x2 = 0 then lI 1 else lI 0), .long (if x2 = 0 then (9 : Int64) else (4 : Int64))]) (rest := []) ⟨hx, hb, hml, hown, hts⟩ (metX4_in l G h x3.toInt64 (if x2 = 0 then lI 1 else lI 0) (if x2 = 0 then (9 : Int64) else (4 : Int64)) ev9) (va_cwS 3 hts (lw_S q1242 q1243 q89 q1244) rfl rfl rfl hsX4_in ⟨Nat.le_of_ble_eq_true rfl, Nat.le_of_ble_eq_true rfl⟩) (ep_preS hK hZ hw) rfl rfl hl.1 rfl (lv_room (Nat.le_of_ble_eq_true rfl)) dX4_fence_39 ⟨Nat.le_of_ble_eq_true rfl, Nat.le_of_ble_eq_true rfl⟩) hw (fun H locs hw => ?_)
          refine lv_if_ne (tgt := 47) hx hb dX4_fence_42 (by decide) (fun c10 => ?_) (fun c10 => ?_)
          · have hf := oi_f hf c10
            refine lv_aload_n hx hb dX4_fence_47 rfl (lv_at hl 0 rfl) ?_
            refine lv_iconst (v := iI 2) hx hb dX4_fence_48 rfl ?_
            refine lv_iload_n hx hb dX4_fence_49 rfl (lv_at hl 1 rfl) ?_
            refine lv_imul hx hb dX4_fence_50 ?_
            refine lv_iload_n hx hb dX4_fence_51 rfl (lv_at hl 2 rfl) ?_
            refine lv_iadd hx hb dX4_fence_52 ?_
            refine lv_iload_n hx hb dX4_fence_53 rfl (lv_at hl 3 rfl) ?_
            obtain ⟨o11, eo11, hf⟩ := ob_s hf
            refine ep_calli0 (va_runV (As := [.int (((iI 2) * x1) + x2), .int x3]) (rest := []) ⟨hx, hb, hml, hown, hts⟩ (metX4_becomes l G h a0 (((iI 2) * x1) + x2) x3 eo11) (cwV 2 hts (lw_V q1391 q1393 qs60 q89 q1394) rfl rfl rfl hdX4_becomes ⟨Nat.le_of_ble_eq_true rfl, Nat.le_of_ble_eq_true rfl⟩) (ep_preV hK hZ hw rfl (ckX4_becomes eo11)) rfl rfl hl.1 rfl (lv_room (Nat.le_of_ble_eq_true rfl)) dX4_fence_54 ⟨Nat.le_of_ble_eq_true rfl, Nat.le_of_ble_eq_true rfl⟩) hw (fun H locs hw => ?_)
            exact ep_retiW hx hb hr hlocks hw hf dX4_fence_57
          · have hf := oi_t hf c10
            refine lv_iconst (v := iI (-1)) hx hb dX4_fence_45 rfl ?_
            exact ep_retiW hx hb hr hlocks hw hf dX4_fence_46
        refine lv_if_ne (tgt := 36) hx hb dX4_fence_27 (by decide) (fun c8 => ?_) (fun c8 => ?_)
        · refine lv_ldc2 (v := (4 : Int64)) hx hb hown (hts _ q1403) dX4_fence_36 ?_
          rw [if_neg c8] at hJ7
          exact hJ7
        · refine lv_ldc2 (v := (9 : Int64)) hx hb hown (hts _ q1402) dX4_fence_30 ?_
          refine lv_goto (tgt := 39) hx hb dX4_fence_33 (by decide) ?_
          rw [if_pos c8] at hJ7
          exact hJ7
      refine lv_if_ne (tgt := 25) hx hb dX4_fence_18 (by decide) (fun c6 => ?_) (fun c6 => ?_)
      · refine lv_lconst (v := lI 0) hx hb dX4_fence_25 (by decide) ?_
        rw [if_neg c6] at hJ5
        exact hJ5
      · refine lv_lconst (v := lI 1) hx hb dX4_fence_21 (by decide) ?_
        refine lv_goto (tgt := 26) hx hb dX4_fence_22 (by decide) ?_
        rw [if_pos c6] at hJ5
        exact hJ5
theorem hdX4_raise : yX4_raise.cls = RX4 ∧ yX4_raise.cls ≠ "java/lang/invoke/MethodHandle" ∧ yX4_raise.cls ≠ "java/lang/invoke/VarHandle" ∧ (parseMethodDescriptor yX4_raise.desc).map (fun d => d.parameters.length) = some 3 := by decide +kernel
theorem ckX4_raise {h : Hp} {a0 : Nat} {x1 : Int32} {x2 : Int32} {x3 : Int32} {res : Int32 × Hp} (hf : fX4_raise h a0 x1 x2 x3 = some res) : ep_cls h a0 = some 4 := by
  unfold fX4_raise at hf
  exact (oi_c hf).1
abbrev wX4_raise (p : Program) (l : Launch) (e : Env) (s : State) (m : MethodId) (below : List Frame) (meth : Method) (c : Code) (G : EG) (h : Hp) (a0 : Nat) (x1 : Int32) (x2 : Int32) (x3 : Int32) (res : Int32 × Hp) (k9 n9 : Nat) (H : Heap) (locs : List Loc) (g : JFrame) : Prop := W p l e (headSpec (ws_ yX4_raise cX4_raise 4 (some .int)) ({ frames := 2, cells := 0, slots := 0, locals := 46 } : Room)).room s m ([.ref a0, .int x1, .int x2, .int x3] : List Value).toArray below meth c H locs k9 n9 (MQ below (ep_Qi G ep_cl res.2 res.1) ([.ref a0, .int x1, .int x2, .int x3] : List Value).toArray s 0 0 (ep_A G)) g
set_option maxHeartbeats 4000000 in
theorem metX4_raise (l : Launch) (G : EG) (h : Hp) (a0 : Nat) (x1 : Int32) (x2 : Int32) (x3 : Int32) {res : Int32 × Hp} (hf : fX4_raise h a0 x1 x2 x3 = some res) : Met l yX4_raise (ws_ yX4_raise cX4_raise 4 (some .int)) ({ frames := 2, cells := 0, slots := 0, locals := 46 } : Room) (ep_Pc G ep_cl h [.ref a0, .int x1, .int x2, .int x3]) (ep_Qi G ep_cl res.2 res.1) 0 0 (ep_A G) := by
  refine Met.ofW (cc := cX4_raise) (maxL := 4) (ret := (some .int)) (by decide) rfl ?_
  intro p e s m args below meth c s₁ B hml hv
  obtain ⟨rfl, hR, hK, hZ⟩ := hv
  have hx := B.exec
  have hb := B.bytes
  have hr := B.returns
  have hlocks := B.notSynchronized
  have hts := atoms_spec (ws := (ws_ yX4_raise cX4_raise 4 (some .int))) B.pre
  have hts : ∀ w ∈ lw_all, w.before _ s = true := fun w h => hts w (List.mem_cons_of_mem _ h)
  have hown : s.vm.findClass RX4 = some m.cls := findClass_of_methodNamed B.named
  have hw : ep_W G ep_cl h s s.heap [] := ⟨hR, va_S.rf⟩
  have hl := lv_entry ([.ref a0, .int x1, .int x2, .int x3]) (n := 4) (Nat.le_of_ble_eq_true rfl)
  rw [lg_entry_eq]
  generalize (lg_sl ([.ref a0, .int x1, .int x2, .int x3]) ++ List.replicate (4 - (lg_sl ([.ref a0, .int x1, .int x2, .int x3])).length) Slot.unset).toArray = ls at hl ⊢
  have hl : lv_has ls 4 [(0, .ref a0), (1, .int x1), (2, .int x2), (3, .int x3)] := hl
  unfold fX4_raise at hf
  have hf := (oi_c hf).2
  show wX4_raise p l e s m below meth c G h a0 x1 x2 x3 res 0 0 s.heap ([]) (F0 m 0 ls [])
  refine lv_aload_n hx hb dX4_raise_0 rfl (lv_at hl 0 rfl) ?_
  refine lv_iload_n hx hb dX4_raise_1 rfl (lv_at hl 1 rfl) ?_
  obtain ⟨v1, ev1, hf⟩ := ob_s hf
  refine ep_calli0 (va_runV (As := [.int x1]) (rest := []) ⟨hx, hb, hml, hown, hts⟩ (metX4_isEcho l G h a0 x1 ev1) (cwV 1 hts (lw_V q1352 q1354 qs54 q89 q1355) rfl rfl rfl hdX4_isEcho ⟨Nat.le_of_ble_eq_true rfl, Nat.le_of_ble_eq_true rfl⟩) (ep_preV hK hZ hw rfl (ckX4_isEcho ev1)) rfl rfl hl.1 rfl (lv_room (Nat.le_of_ble_eq_true rfl)) dX4_raise_2 ⟨Nat.le_of_ble_eq_true rfl, Nat.le_of_ble_eq_true rfl⟩) hw (fun H locs hw => ?_)
  refine lv_if_eq (tgt := 37) hx hb dX4_raise_5 (by decide) (fun c2 => ?_) (fun c2 => ?_)
  · have hf := oi_t hf c2
    refine lv_iconst (v := iI (-1)) hx hb dX4_raise_37 rfl ?_
    exact ep_retiW hx hb hr hlocks hw hf dX4_raise_38
  · have hf := oi_f hf c2
    refine lv_iload_n hx hb dX4_raise_8 rfl (lv_at hl 2 rfl) ?_
    obtain ⟨v3, ev3, hf⟩ := ob_s hf
    refine ep_calli0 (va_runS (As := [.int x2]) (rest := []) ⟨hx, hb, hml, hown, hts⟩ (metX4_isPart l G h x2 ev3) (va_cwS 1 hts (lw_S q1399 q1400 q89 q1401) rfl rfl rfl hsX4_isPart ⟨Nat.le_of_ble_eq_true rfl, Nat.le_of_ble_eq_true rfl⟩) (ep_preS hK hZ hw) rfl rfl hl.1 rfl (lv_room (Nat.le_of_ble_eq_true rfl)) dX4_raise_9 ⟨Nat.le_of_ble_eq_true rfl, Nat.le_of_ble_eq_true rfl⟩) hw (fun H locs hw => ?_)
    refine lv_if_eq (tgt := 37) hx hb dX4_raise_12 (by decide) (fun c4 => ?_) (fun c4 => ?_)
    · have hf := oi_t hf c4
      refine lv_iconst (v := iI (-1)) hx hb dX4_raise_37 rfl ?_
      exact ep_retiW hx hb hr hlocks hw hf dX4_raise_38
    · have hf := oi_f hf c4
      refine lv_iload_n hx hb dX4_raise_15 rfl (lv_at hl 3 rfl) ?_
      refine lv_i2l (v := x3.toInt64) hx hb dX4_raise_16 rfl ?_
      refine lv_lconst (v := lI 0) hx hb dX4_raise_17 (by decide) ?_
      refine lv_iload_n hx hb dX4_raise_18 rfl (lv_at hl 2 rfl) ?_
      have hJ5 : wX4_raise p l e s m below meth c G h a0 x1 x2 x3 res 0 0 H locs (F0 m 31 ls [.long (if x2 = 0 then (99 : Int64) else (3 : Int64)), .long (lI 0), .long x3.toInt64]) := by
        obtain ⟨v7, ev7, hf⟩ := ob_s hf
        refine ep_calli0 (va_runS (As := [.long x3.toInt64, .long (lI 0), .long (if x2 = 0 then (99 : Int64) else (3 : Int64))]) (rest := []) ⟨hx, hb, hml, hown, hts⟩ (metX4_in l G h x3.toInt64 (lI 0) (if x2 = 0 then (99 : Int64) else (3 : Int64)) ev7) (va_cwS 3 hts (lw_S q1242 q1243 q89 q1244) rfl rfl rfl hsX4_in ⟨Nat.le_of_ble_eq_true rfl, Nat.le_of_ble_eq_true rfl⟩) (ep_preS hK hZ hw) rfl rfl hl.1 rfl (lv_room (Nat.le_of_ble_eq_true rfl)) dX4_raise_31 ⟨Nat.le_of_ble_eq_true rfl, Nat.le_of_ble_eq_true rfl⟩) hw (fun H locs hw => ?_)
        refine lv_if_ne (tgt := 39) hx hb dX4_raise_34 (by decide) (fun c8 => ?_) (fun c8 => ?_)
        · have hf := oi_f hf c8
          refine lv_aload_n hx hb dX4_raise_39 rfl (lv_at hl 0 rfl) ?_
          refine lv_bipush (v := iI 8) hx hb dX4_raise_40 (by decide) ?_
          refine lv_bipush (v := iI 9) hx hb dX4_raise_42 (by decide) ?_
          refine lv_iload_n hx hb dX4_raise_44 rfl (lv_at hl 1 rfl) ?_
          refine lv_imul hx hb dX4_raise_45 ?_
          refine lv_iadd hx hb dX4_raise_46 ?_
          refine lv_iload_n hx hb dX4_raise_47 rfl (lv_at hl 2 rfl) ?_
          have hJ9 : wX4_raise p l e s m below meth c G h a0 x1 x2 x3 res 0 0 H locs (F0 m 56 ls [.int (if x2 = 0 then iI 1 else iI 0), .int ((iI 8) + ((iI 9) * x1)), .ref a0]) := by
            refine lv_iadd hx hb dX4_raise_56 ?_
            refine lv_iload_n hx hb dX4_raise_57 rfl (lv_at hl 3 rfl) ?_
            obtain ⟨o11, eo11, hf⟩ := ob_s hf
            refine ep_calli0 (va_runV (As := [.int (((iI 8) + ((iI 9) * x1)) + (if x2 = 0 then iI 1 else iI 0)), .int x3]) (rest := []) ⟨hx, hb, hml, hown, hts⟩ (metX4_becomes l G h a0 (((iI 8) + ((iI 9) * x1)) + (if x2 = 0 then iI 1 else iI 0)) x3 eo11) (cwV 2 hts (lw_V q1391 q1393 qs60 q89 q1394) rfl rfl rfl hdX4_becomes ⟨Nat.le_of_ble_eq_true rfl, Nat.le_of_ble_eq_true rfl⟩) (ep_preV hK hZ hw rfl (ckX4_becomes eo11)) rfl rfl hl.1 rfl (lv_room (Nat.le_of_ble_eq_true rfl)) dX4_raise_58 ⟨Nat.le_of_ble_eq_true rfl, Nat.le_of_ble_eq_true rfl⟩) hw (fun H locs hw => ?_)
            exact ep_retiW hx hb hr hlocks hw hf dX4_raise_61
          refine lv_if_ne (tgt := 55) hx hb dX4_raise_48 (by decide) (fun c10 => ?_) (fun c10 => ?_)
          · refine lv_iconst (v := iI 0) hx hb dX4_raise_55 rfl ?_
            rw [if_neg c10] at hJ9
            exact hJ9
          · refine lv_iconst (v := iI 1) hx hb dX4_raise_51 rfl ?_
            refine lv_goto (tgt := 56) hx hb dX4_raise_52 (by decide) ?_
            rw [if_pos c10] at hJ9
            exact hJ9
        · have hf := oi_t hf c8
          refine lv_iconst (v := iI (-1)) hx hb dX4_raise_37 rfl ?_
          exact ep_retiW hx hb hr hlocks hw hf dX4_raise_38
      refine lv_if_ne (tgt := 28) hx hb dX4_raise_19 (by decide) (fun c6 => ?_) (fun c6 => ?_)
      · refine lv_ldc2 (v := (3 : Int64)) hx hb hown (hts _ q1409) dX4_raise_28 ?_
        rw [if_neg c6] at hJ5
        exact hJ5
      · refine lv_ldc2 (v := (99 : Int64)) hx hb hown (hts _ q1408) dX4_raise_22 ?_
        refine lv_goto (tgt := 31) hx hb dX4_raise_25 (by decide) ?_
        rw [if_pos c6] at hJ5
        exact hJ5
theorem hdX4_becomesOf : yX4_becomesOf.cls = RX4 ∧ yX4_becomesOf.cls ≠ "java/lang/invoke/MethodHandle" ∧ yX4_becomesOf.cls ≠ "java/lang/invoke/VarHandle" ∧ (parseMethodDescriptor yX4_becomesOf.desc).map (fun d => d.parameters.length) = some 3 := by decide +kernel
theorem ckX4_becomesOf {h : Hp} {a0 : Nat} {x1 : Int32} {x2 : Int32} {x3 : Int32} {res : Hp} (hf : fX4_becomesOf h a0 x1 x2 x3 = some res) : ep_cls h a0 = some 4 := by
  unfold fX4_becomesOf at hf
  exact (oi_c hf).1
abbrev wX4_becomesOf (p : Program) (l : Launch) (e : Env) (s : State) (m : MethodId) (below : List Frame) (meth : Method) (c : Code) (G : EG) (h : Hp) (a0 : Nat) (x1 : Int32) (x2 : Int32) (x3 : Int32) (res : Hp) (k9 n9 : Nat) (H : Heap) (locs : List Loc) (g : JFrame) : Prop := W p l e (headSpec (ws_ yX4_becomesOf cX4_becomesOf 4 none) ({ frames := 0, cells := 0, slots := 0, locals := 0 } : Room)).room s m ([.ref a0, .int x1, .int x2, .int x3] : List Value).toArray below meth c H locs k9 n9 (MQ below (ep_Qv G ep_cl res) ([.ref a0, .int x1, .int x2, .int x3] : List Value).toArray s 0 0 (ep_A G)) g
set_option maxHeartbeats 4000000 in
theorem metX4_becomesOf (l : Launch) (G : EG) (h : Hp) (a0 : Nat) (x1 : Int32) (x2 : Int32) (x3 : Int32) {res : Hp} (hf : fX4_becomesOf h a0 x1 x2 x3 = some res) : Met l yX4_becomesOf (ws_ yX4_becomesOf cX4_becomesOf 4 none) ({ frames := 0, cells := 0, slots := 0, locals := 0 } : Room) (ep_Pc G ep_cl h [.ref a0, .int x1, .int x2, .int x3]) (ep_Qv G ep_cl res) 0 0 (ep_A G) := by
  refine Met.ofW (cc := cX4_becomesOf) (maxL := 4) (ret := none) (by decide) rfl ?_
  intro p e s m args below meth c s₁ B hml hv
  obtain ⟨rfl, hR, hK, hZ⟩ := hv
  have hx := B.exec
  have hb := B.bytes
  have hr := B.returns
  have hlocks := B.notSynchronized
  have hts := atoms_spec (ws := (ws_ yX4_becomesOf cX4_becomesOf 4 none)) B.pre
  have hts : ∀ w ∈ lw_all, w.before _ s = true := fun w h => hts w (List.mem_cons_of_mem _ h)
  have hown : s.vm.findClass RX4 = some m.cls := findClass_of_methodNamed B.named
  have hw : ep_W G ep_cl h s s.heap [] := ⟨hR, va_S.rf⟩
  have hl := lv_entry ([.ref a0, .int x1, .int x2, .int x3]) (n := 4) (Nat.le_of_ble_eq_true rfl)
  rw [lg_entry_eq]
  generalize (lg_sl ([.ref a0, .int x1, .int x2, .int x3]) ++ List.replicate (4 - (lg_sl ([.ref a0, .int x1, .int x2, .int x3])).length) Slot.unset).toArray = ls at hl ⊢
  have hl : lv_has ls 4 [(0, .ref a0), (1, .int x1), (2, .int x2), (3, .int x3)] := hl
  unfold fX4_becomesOf at hf
  have hf := (oi_c hf).2
  show wX4_becomesOf p l e s m below meth c G h a0 x1 x2 x3 res 0 0 s.heap ([]) (F0 m 0 ls [])
  refine lv_aload_n hx hb dX4_becomesOf_0 rfl (lv_at hl 0 rfl) ?_
  obtain ⟨r1, er1, hf⟩ := ob_s hf
  refine ep_get (C := RX4) (T := TX4) (N := 32) (ci := 4) hx hb hts in_X4 hown hK hw rfl 1 (by decide) q1140 (gR_f er1) dX4_becomesOf_1 ?_
  refine lv_bipush (v := iI 8) hx hb dX4_becomesOf_4 (by decide) ?_
  refine lv_bipush (v := iI 9) hx hb dX4_becomesOf_6 (by decide) ?_
  refine lv_iload_n hx hb dX4_becomesOf_8 rfl (lv_at hl 1 rfl) ?_
  refine lv_imul hx hb dX4_becomesOf_9 ?_
  refine lv_iadd hx hb dX4_becomesOf_10 ?_
  refine lv_iload_n hx hb dX4_becomesOf_11 rfl (lv_at hl 2 rfl) ?_
  refine lv_iadd hx hb dX4_becomesOf_12 ?_
  refine lv_iload_n hx hb dX4_becomesOf_13 rfl (lv_at hl 3 rfl) ?_
  obtain ⟨h2, eh2, hf⟩ := ob_s hf
  refine ep_iast hx hb hK hw eh2 dX4_becomesOf_14 (fun H locs hw => ?_)
  exact ep_retvW hx hb hr hlocks hw hf dX4_becomesOf_15
theorem hdX4_losesLetter : yX4_losesLetter.cls = RX4 ∧ yX4_losesLetter.cls ≠ "java/lang/invoke/MethodHandle" ∧ yX4_losesLetter.cls ≠ "java/lang/invoke/VarHandle" ∧ (parseMethodDescriptor yX4_losesLetter.desc).map (fun d => d.parameters.length) = some 1 := by decide +kernel
theorem ckX4_losesLetter {h : Hp} {a0 : Nat} {x1 : Int32} {res : Hp} (hf : fX4_losesLetter h a0 x1 = some res) : ep_cls h a0 = some 4 := by
  unfold fX4_losesLetter at hf
  exact (oi_c hf).1
abbrev wX4_losesLetter (p : Program) (l : Launch) (e : Env) (s : State) (m : MethodId) (below : List Frame) (meth : Method) (c : Code) (G : EG) (h : Hp) (a0 : Nat) (x1 : Int32) (res : Hp) (k9 n9 : Nat) (H : Heap) (locs : List Loc) (g : JFrame) : Prop := W p l e (headSpec (ws_ yX4_losesLetter cX4_losesLetter 2 none) ({ frames := 1, cells := 0, slots := 0, locals := 23 } : Room)).room s m ([.ref a0, .int x1] : List Value).toArray below meth c H locs k9 n9 (MQ below (ep_Qv G ep_cl res) ([.ref a0, .int x1] : List Value).toArray s 0 0 (ep_A G)) g
set_option maxHeartbeats 4000000 in
theorem metX4_losesLetter (l : Launch) (G : EG) (h : Hp) (a0 : Nat) (x1 : Int32) {res : Hp} (hf : fX4_losesLetter h a0 x1 = some res) : Met l yX4_losesLetter (ws_ yX4_losesLetter cX4_losesLetter 2 none) ({ frames := 1, cells := 0, slots := 0, locals := 23 } : Room) (ep_Pc G ep_cl h [.ref a0, .int x1]) (ep_Qv G ep_cl res) 0 0 (ep_A G) := by
  refine Met.ofW (cc := cX4_losesLetter) (maxL := 2) (ret := none) (by decide) rfl ?_
  intro p e s m args below meth c s₁ B hml hv
  obtain ⟨rfl, hR, hK, hZ⟩ := hv
  have hx := B.exec
  have hb := B.bytes
  have hr := B.returns
  have hlocks := B.notSynchronized
  have hts := atoms_spec (ws := (ws_ yX4_losesLetter cX4_losesLetter 2 none)) B.pre
  have hts : ∀ w ∈ lw_all, w.before _ s = true := fun w h => hts w (List.mem_cons_of_mem _ h)
  have hown : s.vm.findClass RX4 = some m.cls := findClass_of_methodNamed B.named
  have hw : ep_W G ep_cl h s s.heap [] := ⟨hR, va_S.rf⟩
  have hl := lv_entry ([.ref a0, .int x1]) (n := 2) (Nat.le_of_ble_eq_true rfl)
  rw [lg_entry_eq]
  generalize (lg_sl ([.ref a0, .int x1]) ++ List.replicate (2 - (lg_sl ([.ref a0, .int x1])).length) Slot.unset).toArray = ls at hl ⊢
  have hl : lv_has ls 2 [(0, .ref a0), (1, .int x1)] := hl
  unfold fX4_losesLetter at hf
  have hf := (oi_c hf).2
  show wX4_losesLetter p l e s m below meth c G h a0 x1 res 0 0 s.heap ([]) (F0 m 0 ls [])
  refine lv_aload_n hx hb dX4_losesLetter_0 rfl (lv_at hl 0 rfl) ?_
  refine lv_iload_n hx hb dX4_losesLetter_1 rfl (lv_at hl 1 rfl) ?_
  refine lv_iconst (v := iI 3) hx hb dX4_losesLetter_2 rfl ?_
  refine lv_aload_n hx hb dX4_losesLetter_3 rfl (lv_at hl 0 rfl) ?_
  refine lv_iload_n hx hb dX4_losesLetter_4 rfl (lv_at hl 1 rfl) ?_
  refine lv_iconst (v := iI 3) hx hb dX4_losesLetter_5 rfl ?_
  obtain ⟨v1, ev1, hf⟩ := ob_s hf
  refine ep_calli0 (va_runV (As := [.int x1, .int (iI 3)]) (rest := [.int (iI 3), .int x1, .ref a0]) ⟨hx, hb, hml, hown, hts⟩ (metX4_of l G h a0 x1 (iI 3) ev1) (cwV 2 hts (lw_V q1327 q1329 qs50 q89 q1330) rfl rfl rfl hdX4_of ⟨Nat.le_of_ble_eq_true rfl, Nat.le_of_ble_eq_true rfl⟩) (ep_preV hK hZ hw rfl (ckX4_of ev1)) rfl rfl hl.1 rfl (lv_room (Nat.le_of_ble_eq_true rfl)) dX4_losesLetter_6 ⟨Nat.le_of_ble_eq_true rfl, Nat.le_of_ble_eq_true rfl⟩) hw (fun H locs hw => ?_)
  obtain ⟨o2, ho2, hf⟩ := ob_s hf
  have hJ2 : ∀ (H : Heap) (locs : List Loc) (ls : Array Slot), ep_W G ep_cl h s H locs → lv_has ls 2 [] → wX4_losesLetter p l e s m below meth c G h a0 x1 res 0 0 H locs (F0 m 24 ls [.int o2, .int (iI 3), .int x1, .ref a0]) := by
    intro H locs ls hw hl
    obtain ⟨o5, eo5, hf⟩ := ob_s hf
    refine ep_callv0 (va_runV (As := [.int x1, .int (iI 3), .int o2]) (rest := []) ⟨hx, hb, hml, hown, hts⟩ (metX4_becomesOf l G h a0 x1 (iI 3) o2 eo5) (cwV 3 hts (lw_V q1418 q1420 qs62 q89 q1421) rfl rfl rfl hdX4_becomesOf ⟨Nat.le_of_ble_eq_true rfl, Nat.le_of_ble_eq_true rfl⟩) (ep_preV hK hZ hw rfl (ckX4_becomesOf eo5)) rfl rfl hl.1 rfl (lv_room (Nat.le_of_ble_eq_true rfl)) dX4_losesLetter_24 ⟨Nat.le_of_ble_eq_true rfl, Nat.le_of_ble_eq_true rfl⟩) hw (fun H locs hw => ?_)
    exact ep_retvW hx hb hr hlocks hw hf dX4_losesLetter_27
  refine lv_if_le (tgt := 23) hx hb dX4_losesLetter_9 (by decide) (fun c3 => ?_) (fun c3 => ?_)
  · have ho2 := oi_t ho2 c3
    refine lv_iconst (v := iI 0) hx hb dX4_losesLetter_23 rfl ?_
    obtain rfl := Option.some.inj ho2
    exact hJ2 _ _ _ hw (lv_sub hl [] rfl)
  · have ho2 := oi_f ho2 c3
    refine lv_aload_n hx hb dX4_losesLetter_12 rfl (lv_at hl 0 rfl) ?_
    refine lv_iload_n hx hb dX4_losesLetter_13 rfl (lv_at hl 1 rfl) ?_
    refine lv_iconst (v := iI 3) hx hb dX4_losesLetter_14 rfl ?_
    obtain ⟨v4, ev4, ho2⟩ := ob_s ho2
    refine ep_calli0 (va_runV (As := [.int x1, .int (iI 3)]) (rest := [.int (iI 3), .int x1, .ref a0]) ⟨hx, hb, hml, hown, hts⟩ (metX4_of l G h a0 x1 (iI 3) ev4) (cwV 2 hts (lw_V q1327 q1329 qs50 q89 q1330) rfl rfl rfl hdX4_of ⟨Nat.le_of_ble_eq_true rfl, Nat.le_of_ble_eq_true rfl⟩) (ep_preV hK hZ hw rfl (ckX4_of ev4)) rfl rfl hl.1 rfl (lv_room (Nat.le_of_ble_eq_true rfl)) dX4_losesLetter_15 ⟨Nat.le_of_ble_eq_true rfl, Nat.le_of_ble_eq_true rfl⟩) hw (fun H locs hw => ?_)
    refine lv_iconst (v := iI 1) hx hb dX4_losesLetter_18 rfl ?_
    refine lv_isub hx hb dX4_losesLetter_19 ?_
    refine lv_goto (tgt := 24) hx hb dX4_losesLetter_20 (by decide) ?_
    obtain rfl := Option.some.inj ho2
    exact hJ2 _ _ _ hw (lv_sub hl [] rfl)
theorem hdX4_settles : yX4_settles.cls = RX4 ∧ yX4_settles.cls ≠ "java/lang/invoke/MethodHandle" ∧ yX4_settles.cls ≠ "java/lang/invoke/VarHandle" ∧ (parseMethodDescriptor yX4_settles.desc).map (fun d => d.parameters.length) = some 0 := by decide +kernel
theorem ckX4_settles {h : Hp} {a0 : Nat} {res : Hp} (hf : fX4_settles h a0 = some res) : ep_cls h a0 = some 4 := by
  unfold fX4_settles at hf
  exact (oi_c hf).1
abbrev wX4_settles (p : Program) (l : Launch) (e : Env) (s : State) (m : MethodId) (below : List Frame) (meth : Method) (c : Code) (G : EG) (h : Hp) (a0 : Nat) (res : Hp) (k9 n9 : Nat) (H : Heap) (locs : List Loc) (g : JFrame) : Prop := W p l e (headSpec (ws_ yX4_settles cX4_settles 2 none) ({ frames := 0, cells := 0, slots := 0, locals := 0 } : Room)).room s m ([.ref a0] : List Value).toArray below meth c H locs k9 n9 (MQ below (ep_Qv G ep_cl res) ([.ref a0] : List Value).toArray s 0 0 (ep_A G)) g
set_option maxHeartbeats 4000000 in
theorem metX4_settles (l : Launch) (G : EG) (h : Hp) (a0 : Nat) {res : Hp} (hf : fX4_settles h a0 = some res) : Met l yX4_settles (ws_ yX4_settles cX4_settles 2 none) ({ frames := 0, cells := 0, slots := 0, locals := 0 } : Room) (ep_Pc G ep_cl h [.ref a0]) (ep_Qv G ep_cl res) 0 0 (ep_A G) := by
  refine Met.ofW (cc := cX4_settles) (maxL := 2) (ret := none) (by decide) rfl ?_
  intro p e s m args below meth c s₁ B hml hv
  obtain ⟨rfl, hR, hK, hZ⟩ := hv
  have hx := B.exec
  have hb := B.bytes
  have hr := B.returns
  have hlocks := B.notSynchronized
  have hts := atoms_spec (ws := (ws_ yX4_settles cX4_settles 2 none)) B.pre
  have hts : ∀ w ∈ lw_all, w.before _ s = true := fun w h => hts w (List.mem_cons_of_mem _ h)
  have hown : s.vm.findClass RX4 = some m.cls := findClass_of_methodNamed B.named
  have hw : ep_W G ep_cl h s s.heap [] := ⟨hR, va_S.rf⟩
  have hl := lv_entry ([.ref a0]) (n := 2) (Nat.le_of_ble_eq_true rfl)
  rw [lg_entry_eq]
  generalize (lg_sl ([.ref a0]) ++ List.replicate (2 - (lg_sl ([.ref a0])).length) Slot.unset).toArray = ls at hl ⊢
  have hl : lv_has ls 2 [(0, .ref a0)] := hl
  unfold fX4_settles at hf
  have hf := (oi_c hf).2
  show wX4_settles p l e s m below meth c G h a0 res 0 0 s.heap ([]) (F0 m 0 ls [])
  refine lv_iconst (v := iI 0) hx hb dX4_settles_0 rfl ?_
  refine lv_istore_n (lv' := [(1, .int (iI 0)), (0, .ref a0)]) hx hb dX4_settles_1 rfl hl (by decide) rfl (fun ls hl => ?_)
  obtain ⟨o1, ho1, hf⟩ := ob_s hf
  have hJ1 : ∀ (H : Heap) (locs : List Loc) (ls : Array Slot), ep_W G ep_cl o1 s H locs → lv_has ls 2 [] → wX4_settles p l e s m below meth c G h a0 res 0 0 H locs (F0 m 26 ls []) := by
    intro H locs ls hw hl
    exact ep_retvW hx hb hr hlocks hw hf dX4_settles_26
  have hL1 : ∀ (fu : Nat) (h : Hp) (x1 : Int32), fX4_settles_L2 a0 fu h x1 = some o1 → ∀ (H : Heap) (locs : List Loc) (ls : Array Slot), ep_W G ep_cl h s H locs → lv_has ls 2 [(0, .ref a0), (1, .int x1)] → wX4_settles p l e s m below meth c G h a0 res 0 0 H locs (F0 m 2 ls []) := by
    intro fu
    induction fu with
    | zero => intro h x1 ho1; cases ho1
    | succ fu ih1 =>
      intro h x1 ho1 H locs ls hw hl
      rw [fX4_settles_L2] at ho1
      refine lv_iload_n hx hb dX4_settles_2 rfl (lv_at hl 1 rfl) ?_
      refine lv_bipush (v := iI 75) hx hb dX4_settles_3 (by decide) ?_
      refine lv_icmp_ge (tgt := 26) hx hb dX4_settles_5 (by decide) (fun c2 => ?_) (fun c2 => ?_)
      · have ho1 := oi_t ho1 c2
        obtain rfl := Option.some.inj ho1
        exact hJ1 _ _ _ hw (lv_sub hl [] rfl)
      · have ho1 := oi_f ho1 c2
        refine lv_aload_n hx hb dX4_settles_8 rfl (lv_at hl 0 rfl) ?_
        obtain ⟨r3, er3, ho1⟩ := ob_s ho1
        refine ep_get (C := RX4) (T := TX4) (N := 32) (ci := 4) hx hb hts in_X4 hown hK hw rfl 0 (by decide) q1139 (gR_f er3) dX4_settles_9 ?_
        refine lv_iload_n hx hb dX4_settles_12 rfl (lv_at hl 1 rfl) ?_
        refine lv_aload_n hx hb dX4_settles_13 rfl (lv_at hl 0 rfl) ?_
        obtain ⟨r4, er4, ho1⟩ := ob_s ho1
        refine ep_get (C := RX4) (T := TX4) (N := 32) (ci := 4) hx hb hts in_X4 hown hK hw rfl 1 (by decide) q1140 (gR_f er4) dX4_settles_14 ?_
        refine lv_iload_n hx hb dX4_settles_17 rfl (lv_at hl 1 rfl) ?_
        obtain ⟨v5, ev5, ho1⟩ := ob_s ho1
        refine ep_iald hx hb hK hw ev5 dX4_settles_18 ?_
        obtain ⟨h6, eh6, ho1⟩ := ob_s ho1
        refine ep_iast hx hb hK hw eh6 dX4_settles_19 (fun H locs hw => ?_)
        refine lv_iinc (v := (x1 + iI 1)) (lv' := [(1, .int (x1 + iI 1)), (0, .ref a0)]) hx hb dX4_settles_20 hl (k := 1) rfl rfl (by decide) rfl (fun ls hl => ?_)
        refine lv_goto (tgt := 2) hx hb dX4_settles_23 (by decide) ?_
        exact ih1 _ _ ho1 _ _ _ hw (lv_sub hl [1, 0] rfl)
  exact hL1 FUEL _ _ ho1 _ _ _ hw (lv_sub hl [1, 0] rfl)
theorem hdX4_clip : yX4_clip.cls = RX4 ∧ yX4_clip.cls ≠ "java/lang/invoke/MethodHandle" ∧ yX4_clip.cls ≠ "java/lang/invoke/VarHandle" ∧ (parseMethodDescriptor yX4_clip.desc).map (fun d => d.parameters.length) = some 1 := by decide +kernel
theorem ckX4_clip {h : Hp} {a0 : Nat} {x1 : Int32} {res : Int32 × Hp} (hf : fX4_clip h a0 x1 = some res) : ep_cls h a0 = some 4 := by
  unfold fX4_clip at hf
  exact (oi_c hf).1
abbrev wX4_clip (p : Program) (l : Launch) (e : Env) (s : State) (m : MethodId) (below : List Frame) (meth : Method) (c : Code) (G : EG) (h : Hp) (a0 : Nat) (x1 : Int32) (res : Int32 × Hp) (k9 n9 : Nat) (H : Heap) (locs : List Loc) (g : JFrame) : Prop := W p l e (headSpec (ws_ yX4_clip cX4_clip 2 (some .int)) ({ frames := 2, cells := 0, slots := 0, locals := 46 } : Room)).room s m ([.ref a0, .int x1] : List Value).toArray below meth c H locs k9 n9 (MQ below (ep_Qi G ep_cl res.2 res.1) ([.ref a0, .int x1] : List Value).toArray s 0 0 (ep_A G)) g
set_option maxHeartbeats 4000000 in
theorem metX4_clip (l : Launch) (G : EG) (h : Hp) (a0 : Nat) (x1 : Int32) {res : Int32 × Hp} (hf : fX4_clip h a0 x1 = some res) : Met l yX4_clip (ws_ yX4_clip cX4_clip 2 (some .int)) ({ frames := 2, cells := 0, slots := 0, locals := 46 } : Room) (ep_Pc G ep_cl h [.ref a0, .int x1]) (ep_Qi G ep_cl res.2 res.1) 0 0 (ep_A G) := by
  refine Met.ofW (cc := cX4_clip) (maxL := 2) (ret := (some .int)) (by decide) rfl ?_
  intro p e s m args below meth c s₁ B hml hv
  obtain ⟨rfl, hR, hK, hZ⟩ := hv
  have hx := B.exec
  have hb := B.bytes
  have hr := B.returns
  have hlocks := B.notSynchronized
  have hts := atoms_spec (ws := (ws_ yX4_clip cX4_clip 2 (some .int))) B.pre
  have hts : ∀ w ∈ lw_all, w.before _ s = true := fun w h => hts w (List.mem_cons_of_mem _ h)
  have hown : s.vm.findClass RX4 = some m.cls := findClass_of_methodNamed B.named
  have hw : ep_W G ep_cl h s s.heap [] := ⟨hR, va_S.rf⟩
  have hl := lv_entry ([.ref a0, .int x1]) (n := 2) (Nat.le_of_ble_eq_true rfl)
  rw [lg_entry_eq]
  generalize (lg_sl ([.ref a0, .int x1]) ++ List.replicate (2 - (lg_sl ([.ref a0, .int x1])).length) Slot.unset).toArray = ls at hl ⊢
  have hl : lv_has ls 2 [(0, .ref a0), (1, .int x1)] := hl
  unfold fX4_clip at hf
  have hf := (oi_c hf).2
  show wX4_clip p l e s m below meth c G h a0 x1 res 0 0 s.heap ([]) (F0 m 0 ls [])
  refine lv_aload_n hx hb dX4_clip_0 rfl (lv_at hl 0 rfl) ?_
  refine lv_iload_n hx hb dX4_clip_1 rfl (lv_at hl 1 rfl) ?_
  obtain ⟨v1, ev1, hf⟩ := ob_s hf
  refine ep_calli0 (va_runV (As := [.int x1]) (rest := []) ⟨hx, hb, hml, hown, hts⟩ (metX4_isEcho l G h a0 x1 ev1) (cwV 1 hts (lw_V q1352 q1354 qs54 q89 q1355) rfl rfl rfl hdX4_isEcho ⟨Nat.le_of_ble_eq_true rfl, Nat.le_of_ble_eq_true rfl⟩) (ep_preV hK hZ hw rfl (ckX4_isEcho ev1)) rfl rfl hl.1 rfl (lv_room (Nat.le_of_ble_eq_true rfl)) dX4_clip_2 ⟨Nat.le_of_ble_eq_true rfl, Nat.le_of_ble_eq_true rfl⟩) hw (fun H locs hw => ?_)
  refine lv_if_ne (tgt := 10) hx hb dX4_clip_5 (by decide) (fun c2 => ?_) (fun c2 => ?_)
  · have hf := oi_f hf c2
    refine lv_aload_n hx hb dX4_clip_10 rfl (lv_at hl 0 rfl) ?_
    obtain ⟨o3, eo3, hf⟩ := ob_s hf
    refine ep_callv0 (va_runV (As := []) (rest := []) ⟨hx, hb, hml, hown, hts⟩ (metX4_starts l G h a0 eo3) (cwV 0 hts (lw_V q1319 q1321 qs48 q89 q1322) rfl rfl rfl hdX4_starts ⟨Nat.le_of_ble_eq_true rfl, Nat.le_of_ble_eq_true rfl⟩) (ep_preV hK hZ hw rfl (ckX4_starts eo3)) rfl rfl hl.1 rfl (lv_room (Nat.le_of_ble_eq_true rfl)) dX4_clip_11 ⟨Nat.le_of_ble_eq_true rfl, Nat.le_of_ble_eq_true rfl⟩) hw (fun H locs hw => ?_)
    refine lv_aload_n hx hb dX4_clip_14 rfl (lv_at hl 0 rfl) ?_
    refine lv_iload_n hx hb dX4_clip_15 rfl (lv_at hl 1 rfl) ?_
    refine lv_iconst (v := iI 3) hx hb dX4_clip_16 rfl ?_
    obtain ⟨v4, ev4, hf⟩ := ob_s hf
    refine ep_calli0 (va_runV (As := [.int x1, .int (iI 3)]) (rest := []) ⟨hx, hb, hml, hown, hts⟩ (metX4_of l G o3 a0 x1 (iI 3) ev4) (cwV 2 hts (lw_V q1327 q1329 qs50 q89 q1330) rfl rfl rfl hdX4_of ⟨Nat.le_of_ble_eq_true rfl, Nat.le_of_ble_eq_true rfl⟩) (ep_preV hK hZ hw rfl (ckX4_of ev4)) rfl rfl hl.1 rfl (lv_room (Nat.le_of_ble_eq_true rfl)) dX4_clip_17 ⟨Nat.le_of_ble_eq_true rfl, Nat.le_of_ble_eq_true rfl⟩) hw (fun H locs hw => ?_)
    refine lv_if_eq (tgt := 31) hx hb dX4_clip_20 (by decide) (fun c5 => ?_) (fun c5 => ?_)
    · have hf := oi_t hf c5
      refine lv_bipush (v := iI (-2)) hx hb dX4_clip_31 (by decide) ?_
      exact ep_retiW hx hb hr hlocks hw hf dX4_clip_33
    · have hf := oi_f hf c5
      refine lv_aload_n hx hb dX4_clip_23 rfl (lv_at hl 0 rfl) ?_
      refine lv_iload_n hx hb dX4_clip_24 rfl (lv_at hl 1 rfl) ?_
      obtain ⟨v6, ev6, hf⟩ := ob_s hf
      refine ep_calli0 (va_runV (As := [.int x1]) (rest := []) ⟨hx, hb, hml, hown, hts⟩ (metX4_isSold l G o3 a0 x1 ev6) (cwV 1 hts (lw_V q1360 q1362 qs56 q89 q1363) rfl rfl rfl hdX4_isSold ⟨Nat.le_of_ble_eq_true rfl, Nat.le_of_ble_eq_true rfl⟩) (ep_preV hK hZ hw rfl (ckX4_isSold ev6)) rfl rfl hl.1 rfl (lv_room (Nat.le_of_ble_eq_true rfl)) dX4_clip_25 ⟨Nat.le_of_ble_eq_true rfl, Nat.le_of_ble_eq_true rfl⟩) hw (fun H locs hw => ?_)
      refine lv_if_eq (tgt := 34) hx hb dX4_clip_28 (by decide) (fun c7 => ?_) (fun c7 => ?_)
      · have hf := oi_t hf c7
        refine lv_aload_n hx hb dX4_clip_34 rfl (lv_at hl 0 rfl) ?_
        refine lv_iload_n hx hb dX4_clip_35 rfl (lv_at hl 1 rfl) ?_
        obtain ⟨o8, eo8, hf⟩ := ob_s hf
        refine ep_callv0 (va_runV (As := [.int x1]) (rest := []) ⟨hx, hb, hml, hown, hts⟩ (metX4_losesLetter l G o3 a0 x1 eo8) (cwV 1 hts (lw_V q1414 q1416 qs61 q89 q1417) rfl rfl rfl hdX4_losesLetter ⟨Nat.le_of_ble_eq_true rfl, Nat.le_of_ble_eq_true rfl⟩) (ep_preV hK hZ hw rfl (ckX4_losesLetter eo8)) rfl rfl hl.1 rfl (lv_room (Nat.le_of_ble_eq_true rfl)) dX4_clip_36 ⟨Nat.le_of_ble_eq_true rfl, Nat.le_of_ble_eq_true rfl⟩) hw (fun H locs hw => ?_)
        refine lv_aload_n hx hb dX4_clip_39 rfl (lv_at hl 0 rfl) ?_
        obtain ⟨o9, eo9, hf⟩ := ob_s hf
        refine ep_callv0 (va_runV (As := []) (rest := []) ⟨hx, hb, hml, hown, hts⟩ (metX4_settles l G o8 a0 eo9) (cwV 0 hts (lw_V q1422 q1424 qs63 q89 q1425) rfl rfl rfl hdX4_settles ⟨Nat.le_of_ble_eq_true rfl, Nat.le_of_ble_eq_true rfl⟩) (ep_preV hK hZ hw rfl (ckX4_settles eo9)) rfl rfl hl.1 rfl (lv_room (Nat.le_of_ble_eq_true rfl)) dX4_clip_40 ⟨Nat.le_of_ble_eq_true rfl, Nat.le_of_ble_eq_true rfl⟩) hw (fun H locs hw => ?_)
        refine lv_aload_n hx hb dX4_clip_43 rfl (lv_at hl 0 rfl) ?_
        refine lv_iload_n hx hb dX4_clip_44 rfl (lv_at hl 1 rfl) ?_
        refine lv_iconst (v := iI 3) hx hb dX4_clip_45 rfl ?_
        obtain ⟨v10, ev10, hf⟩ := ob_s hf
        refine ep_calli0 (va_runV (As := [.int x1, .int (iI 3)]) (rest := []) ⟨hx, hb, hml, hown, hts⟩ (metX4_of l G o9 a0 x1 (iI 3) ev10) (cwV 2 hts (lw_V q1327 q1329 qs50 q89 q1330) rfl rfl rfl hdX4_of ⟨Nat.le_of_ble_eq_true rfl, Nat.le_of_ble_eq_true rfl⟩) (ep_preV hK hZ hw rfl (ckX4_of ev10)) rfl rfl hl.1 rfl (lv_room (Nat.le_of_ble_eq_true rfl)) dX4_clip_46 ⟨Nat.le_of_ble_eq_true rfl, Nat.le_of_ble_eq_true rfl⟩) hw (fun H locs hw => ?_)
        exact ep_retiW hx hb hr hlocks hw hf dX4_clip_49
      · have hf := oi_f hf c7
        refine lv_bipush (v := iI (-2)) hx hb dX4_clip_31 (by decide) ?_
        exact ep_retiW hx hb hr hlocks hw hf dX4_clip_33
  · have hf := oi_t hf c2
    refine lv_iconst (v := iI (-1)) hx hb dX4_clip_8 rfl ?_
    exact ep_retiW hx hb hr hlocks hw hf dX4_clip_9
theorem hdX4_teach : yX4_teach.cls = RX4 ∧ yX4_teach.cls ≠ "java/lang/invoke/MethodHandle" ∧ yX4_teach.cls ≠ "java/lang/invoke/VarHandle" ∧ (parseMethodDescriptor yX4_teach.desc).map (fun d => d.parameters.length) = some 2 := by decide +kernel
theorem ckX4_teach {h : Hp} {a0 : Nat} {x1 : Int32} {x2 : Int32} {res : Int32 × Hp} (hf : fX4_teach h a0 x1 x2 = some res) : ep_cls h a0 = some 4 := by
  unfold fX4_teach at hf
  exact (oi_c hf).1
abbrev wX4_teach (p : Program) (l : Launch) (e : Env) (s : State) (m : MethodId) (below : List Frame) (meth : Method) (c : Code) (G : EG) (h : Hp) (a0 : Nat) (x1 : Int32) (x2 : Int32) (res : Int32 × Hp) (k9 n9 : Nat) (H : Heap) (locs : List Loc) (g : JFrame) : Prop := W p l e (headSpec (ws_ yX4_teach cX4_teach 4 (some .int)) ({ frames := 2, cells := 0, slots := 0, locals := 46 } : Room)).room s m ([.ref a0, .int x1, .int x2] : List Value).toArray below meth c H locs k9 n9 (MQ below (ep_Qi G ep_cl res.2 res.1) ([.ref a0, .int x1, .int x2] : List Value).toArray s 0 0 (ep_A G)) g
set_option maxHeartbeats 4000000 in
theorem metX4_teach (l : Launch) (G : EG) (h : Hp) (a0 : Nat) (x1 : Int32) (x2 : Int32) {res : Int32 × Hp} (hf : fX4_teach h a0 x1 x2 = some res) : Met l yX4_teach (ws_ yX4_teach cX4_teach 4 (some .int)) ({ frames := 2, cells := 0, slots := 0, locals := 46 } : Room) (ep_Pc G ep_cl h [.ref a0, .int x1, .int x2]) (ep_Qi G ep_cl res.2 res.1) 0 0 (ep_A G) := by
  refine Met.ofW (cc := cX4_teach) (maxL := 4) (ret := (some .int)) (by decide) rfl ?_
  intro p e s m args below meth c s₁ B hml hv
  obtain ⟨rfl, hR, hK, hZ⟩ := hv
  have hx := B.exec
  have hb := B.bytes
  have hr := B.returns
  have hlocks := B.notSynchronized
  have hts := atoms_spec (ws := (ws_ yX4_teach cX4_teach 4 (some .int))) B.pre
  have hts : ∀ w ∈ lw_all, w.before _ s = true := fun w h => hts w (List.mem_cons_of_mem _ h)
  have hown : s.vm.findClass RX4 = some m.cls := findClass_of_methodNamed B.named
  have hw : ep_W G ep_cl h s s.heap [] := ⟨hR, va_S.rf⟩
  have hl := lv_entry ([.ref a0, .int x1, .int x2]) (n := 4) (Nat.le_of_ble_eq_true rfl)
  rw [lg_entry_eq]
  generalize (lg_sl ([.ref a0, .int x1, .int x2]) ++ List.replicate (4 - (lg_sl ([.ref a0, .int x1, .int x2])).length) Slot.unset).toArray = ls at hl ⊢
  have hl : lv_has ls 4 [(0, .ref a0), (1, .int x1), (2, .int x2)] := hl
  unfold fX4_teach at hf
  have hf := (oi_c hf).2
  show wX4_teach p l e s m below meth c G h a0 x1 x2 res 0 0 s.heap ([]) (F0 m 0 ls [])
  refine lv_aload_n hx hb dX4_teach_0 rfl (lv_at hl 0 rfl) ?_
  refine lv_iload_n hx hb dX4_teach_1 rfl (lv_at hl 1 rfl) ?_
  obtain ⟨v1, ev1, hf⟩ := ob_s hf
  refine ep_calli0 (va_runV (As := [.int x1]) (rest := []) ⟨hx, hb, hml, hown, hts⟩ (metX4_isEcho l G h a0 x1 ev1) (cwV 1 hts (lw_V q1352 q1354 qs54 q89 q1355) rfl rfl rfl hdX4_isEcho ⟨Nat.le_of_ble_eq_true rfl, Nat.le_of_ble_eq_true rfl⟩) (ep_preV hK hZ hw rfl (ckX4_isEcho ev1)) rfl rfl hl.1 rfl (lv_room (Nat.le_of_ble_eq_true rfl)) dX4_teach_2 ⟨Nat.le_of_ble_eq_true rfl, Nat.le_of_ble_eq_true rfl⟩) hw (fun H locs hw => ?_)
  refine lv_if_eq (tgt := 22) hx hb dX4_teach_5 (by decide) (fun c2 => ?_) (fun c2 => ?_)
  · have hf := oi_t hf c2
    refine lv_iconst (v := iI (-1)) hx hb dX4_teach_22 rfl ?_
    exact ep_retiW hx hb hr hlocks hw hf dX4_teach_23
  · have hf := oi_f hf c2
    refine lv_iload_n hx hb dX4_teach_8 rfl (lv_at hl 2 rfl) ?_
    refine lv_i2l (v := x2.toInt64) hx hb dX4_teach_9 rfl ?_
    refine lv_ldc2 (v := (97 : Int64)) hx hb hown (hts _ q1261) dX4_teach_10 ?_
    refine lv_ldc2 (v := (122 : Int64)) hx hb hown (hts _ q1262) dX4_teach_13 ?_
    obtain ⟨v3, ev3, hf⟩ := ob_s hf
    refine ep_calli0 (va_runS (As := [.long x2.toInt64, .long (97 : Int64), .long (122 : Int64)]) (rest := []) ⟨hx, hb, hml, hown, hts⟩ (metX4_in l G h x2.toInt64 (97 : Int64) (122 : Int64) ev3) (va_cwS 3 hts (lw_S q1242 q1243 q89 q1244) rfl rfl rfl hsX4_in ⟨Nat.le_of_ble_eq_true rfl, Nat.le_of_ble_eq_true rfl⟩) (ep_preS hK hZ hw) rfl rfl hl.1 rfl (lv_room (Nat.le_of_ble_eq_true rfl)) dX4_teach_16 ⟨Nat.le_of_ble_eq_true rfl, Nat.le_of_ble_eq_true rfl⟩) hw (fun H locs hw => ?_)
    refine lv_if_ne (tgt := 24) hx hb dX4_teach_19 (by decide) (fun c4 => ?_) (fun c4 => ?_)
    · have hf := oi_f hf c4
      refine lv_aload_n hx hb dX4_teach_24 rfl (lv_at hl 0 rfl) ?_
      obtain ⟨o5, eo5, hf⟩ := ob_s hf
      refine ep_callv0 (va_runV (As := []) (rest := []) ⟨hx, hb, hml, hown, hts⟩ (metX4_starts l G h a0 eo5) (cwV 0 hts (lw_V q1319 q1321 qs48 q89 q1322) rfl rfl rfl hdX4_starts ⟨Nat.le_of_ble_eq_true rfl, Nat.le_of_ble_eq_true rfl⟩) (ep_preV hK hZ hw rfl (ckX4_starts eo5)) rfl rfl hl.1 rfl (lv_room (Nat.le_of_ble_eq_true rfl)) dX4_teach_25 ⟨Nat.le_of_ble_eq_true rfl, Nat.le_of_ble_eq_true rfl⟩) hw (fun H locs hw => ?_)
      refine lv_aload_n hx hb dX4_teach_28 rfl (lv_at hl 0 rfl) ?_
      refine lv_iload_n hx hb dX4_teach_29 rfl (lv_at hl 1 rfl) ?_
      obtain ⟨v6, ev6, hf⟩ := ob_s hf
      refine ep_calli0 (va_runV (As := [.int x1]) (rest := []) ⟨hx, hb, hml, hown, hts⟩ (metX4_isSold l G o5 a0 x1 ev6) (cwV 1 hts (lw_V q1360 q1362 qs56 q89 q1363) rfl rfl rfl hdX4_isSold ⟨Nat.le_of_ble_eq_true rfl, Nat.le_of_ble_eq_true rfl⟩) (ep_preV hK hZ hw rfl (ckX4_isSold ev6)) rfl rfl hl.1 rfl (lv_room (Nat.le_of_ble_eq_true rfl)) dX4_teach_30 ⟨Nat.le_of_ble_eq_true rfl, Nat.le_of_ble_eq_true rfl⟩) hw (fun H locs hw => ?_)
      refine lv_if_eq (tgt := 39) hx hb dX4_teach_33 (by decide) (fun c7 => ?_) (fun c7 => ?_)
      · have hf := oi_t hf c7
        refine lv_aload_n hx hb dX4_teach_39 rfl (lv_at hl 0 rfl) ?_
        refine lv_iload_n hx hb dX4_teach_40 rfl (lv_at hl 1 rfl) ?_
        refine lv_iconst (v := iI 3) hx hb dX4_teach_41 rfl ?_
        obtain ⟨v8, ev8, hf⟩ := ob_s hf
        refine ep_calli0 (va_runV (As := [.int x1, .int (iI 3)]) (rest := []) ⟨hx, hb, hml, hown, hts⟩ (metX4_of l G o5 a0 x1 (iI 3) ev8) (cwV 2 hts (lw_V q1327 q1329 qs50 q89 q1330) rfl rfl rfl hdX4_of ⟨Nat.le_of_ble_eq_true rfl, Nat.le_of_ble_eq_true rfl⟩) (ep_preV hK hZ hw rfl (ckX4_of ev8)) rfl rfl hl.1 rfl (lv_room (Nat.le_of_ble_eq_true rfl)) dX4_teach_42 ⟨Nat.le_of_ble_eq_true rfl, Nat.le_of_ble_eq_true rfl⟩) hw (fun H locs hw => ?_)
        refine lv_istore_n (lv' := [(3, .int v8), (0, .ref a0), (1, .int x1), (2, .int x2)]) hx hb dX4_teach_45 rfl hl (by decide) rfl (fun ls hl => ?_)
        refine lv_iload_n hx hb dX4_teach_46 rfl (lv_at hl 0 rfl) ?_
        refine lv_iconst (v := iI 5) hx hb dX4_teach_47 rfl ?_
        refine lv_icmp_ne (tgt := 54) hx hb dX4_teach_48 (by decide) (fun c9 => ?_) (fun c9 => ?_)
        · have hf := oi_f hf c9
          refine lv_aload_n hx hb dX4_teach_54 rfl (lv_at hl 1 rfl) ?_
          obtain ⟨r10, er10, hf⟩ := ob_s hf
          refine ep_get (C := RX4) (T := TX4) (N := 32) (ci := 4) hx hb hts in_X4 hown hK hw rfl 0 (by decide) q1139 (gR_f er10) dX4_teach_55 ?_
          refine lv_bipush (v := iI 8) hx hb dX4_teach_58 (by decide) ?_
          refine lv_bipush (v := iI 9) hx hb dX4_teach_60 (by decide) ?_
          refine lv_iload_n hx hb dX4_teach_62 rfl (lv_at hl 2 rfl) ?_
          refine lv_imul hx hb dX4_teach_63 ?_
          refine lv_iadd hx hb dX4_teach_64 ?_
          refine lv_iconst (v := iI 4) hx hb dX4_teach_65 rfl ?_
          refine lv_iadd hx hb dX4_teach_66 ?_
          refine lv_iload_n hx hb dX4_teach_67 rfl (lv_at hl 0 rfl) ?_
          refine lv_iadd hx hb dX4_teach_68 ?_
          refine lv_iload_n hx hb dX4_teach_69 rfl (lv_at hl 3 rfl) ?_
          obtain ⟨h11, eh11, hf⟩ := ob_s hf
          refine ep_iast hx hb hK hw eh11 dX4_teach_70 (fun H locs hw => ?_)
          refine lv_aload_n hx hb dX4_teach_71 rfl (lv_at hl 1 rfl) ?_
          obtain ⟨r12, er12, hf⟩ := ob_s hf
          refine ep_get (C := RX4) (T := TX4) (N := 32) (ci := 4) hx hb hts in_X4 hown hK hw rfl 0 (by decide) q1139 (gR_f er12) dX4_teach_72 ?_
          refine lv_bipush (v := iI 8) hx hb dX4_teach_75 (by decide) ?_
          refine lv_bipush (v := iI 9) hx hb dX4_teach_77 (by decide) ?_
          refine lv_iload_n hx hb dX4_teach_79 rfl (lv_at hl 2 rfl) ?_
          refine lv_imul hx hb dX4_teach_80 ?_
          refine lv_iadd hx hb dX4_teach_81 ?_
          refine lv_iconst (v := iI 3) hx hb dX4_teach_82 rfl ?_
          refine lv_iadd hx hb dX4_teach_83 ?_
          refine lv_iload_n hx hb dX4_teach_84 rfl (lv_at hl 0 rfl) ?_
          refine lv_iconst (v := iI 1) hx hb dX4_teach_85 rfl ?_
          refine lv_iadd hx hb dX4_teach_86 ?_
          obtain ⟨h13, eh13, hf⟩ := ob_s hf
          refine ep_iast hx hb hK hw eh13 dX4_teach_87 (fun H locs hw => ?_)
          refine lv_iload_n hx hb dX4_teach_88 rfl (lv_at hl 0 rfl) ?_
          refine lv_iconst (v := iI 1) hx hb dX4_teach_89 rfl ?_
          refine lv_iadd hx hb dX4_teach_90 ?_
          exact ep_retiW hx hb hr hlocks hw hf dX4_teach_91
        · have hf := oi_t hf c9
          refine lv_bipush (v := iI (-3)) hx hb dX4_teach_51 (by decide) ?_
          exact ep_retiW hx hb hr hlocks hw hf dX4_teach_53
      · have hf := oi_f hf c7
        refine lv_bipush (v := iI (-2)) hx hb dX4_teach_36 (by decide) ?_
        exact ep_retiW hx hb hr hlocks hw hf dX4_teach_38
    · have hf := oi_t hf c4
      refine lv_iconst (v := iI (-1)) hx hb dX4_teach_22 rfl ?_
      exact ep_retiW hx hb hr hlocks hw hf dX4_teach_23
theorem hdX4_cross : yX4_cross.cls = RX4 ∧ yX4_cross.cls ≠ "java/lang/invoke/MethodHandle" ∧ yX4_cross.cls ≠ "java/lang/invoke/VarHandle" ∧ (parseMethodDescriptor yX4_cross.desc).map (fun d => d.parameters.length) = some 2 := by decide +kernel
theorem ckX4_cross {h : Hp} {a0 : Nat} {x1 : Int32} {x2 : Int32} {res : Int32 × Hp} (hf : fX4_cross h a0 x1 x2 = some res) : ep_cls h a0 = some 4 := by
  unfold fX4_cross at hf
  exact (oi_c hf).1
abbrev wX4_cross (p : Program) (l : Launch) (e : Env) (s : State) (m : MethodId) (below : List Frame) (meth : Method) (c : Code) (G : EG) (h : Hp) (a0 : Nat) (x1 : Int32) (x2 : Int32) (res : Int32 × Hp) (k9 n9 : Nat) (H : Heap) (locs : List Loc) (g : JFrame) : Prop := W p l e (headSpec (ws_ yX4_cross cX4_cross 4 (some .int)) ({ frames := 2, cells := 0, slots := 0, locals := 46 } : Room)).room s m ([.ref a0, .int x1, .int x2] : List Value).toArray below meth c H locs k9 n9 (MQ below (ep_Qi G ep_cl res.2 res.1) ([.ref a0, .int x1, .int x2] : List Value).toArray s 0 0 (ep_A G)) g
set_option maxHeartbeats 4000000 in
theorem metX4_cross (l : Launch) (G : EG) (h : Hp) (a0 : Nat) (x1 : Int32) (x2 : Int32) {res : Int32 × Hp} (hf : fX4_cross h a0 x1 x2 = some res) : Met l yX4_cross (ws_ yX4_cross cX4_cross 4 (some .int)) ({ frames := 2, cells := 0, slots := 0, locals := 46 } : Room) (ep_Pc G ep_cl h [.ref a0, .int x1, .int x2]) (ep_Qi G ep_cl res.2 res.1) 0 0 (ep_A G) := by
  refine Met.ofW (cc := cX4_cross) (maxL := 4) (ret := (some .int)) (by decide) rfl ?_
  intro p e s m args below meth c s₁ B hml hv
  obtain ⟨rfl, hR, hK, hZ⟩ := hv
  have hx := B.exec
  have hb := B.bytes
  have hr := B.returns
  have hlocks := B.notSynchronized
  have hts := atoms_spec (ws := (ws_ yX4_cross cX4_cross 4 (some .int))) B.pre
  have hts : ∀ w ∈ lw_all, w.before _ s = true := fun w h => hts w (List.mem_cons_of_mem _ h)
  have hown : s.vm.findClass RX4 = some m.cls := findClass_of_methodNamed B.named
  have hw : ep_W G ep_cl h s s.heap [] := ⟨hR, va_S.rf⟩
  have hl := lv_entry ([.ref a0, .int x1, .int x2]) (n := 4) (Nat.le_of_ble_eq_true rfl)
  rw [lg_entry_eq]
  generalize (lg_sl ([.ref a0, .int x1, .int x2]) ++ List.replicate (4 - (lg_sl ([.ref a0, .int x1, .int x2])).length) Slot.unset).toArray = ls at hl ⊢
  have hl : lv_has ls 4 [(0, .ref a0), (1, .int x1), (2, .int x2)] := hl
  unfold fX4_cross at hf
  have hf := (oi_c hf).2
  show wX4_cross p l e s m below meth c G h a0 x1 x2 res 0 0 s.heap ([]) (F0 m 0 ls [])
  refine lv_aload_n hx hb dX4_cross_0 rfl (lv_at hl 0 rfl) ?_
  refine lv_iload_n hx hb dX4_cross_1 rfl (lv_at hl 1 rfl) ?_
  obtain ⟨v1, ev1, hf⟩ := ob_s hf
  refine ep_calli0 (va_runV (As := [.int x1]) (rest := []) ⟨hx, hb, hml, hown, hts⟩ (metX4_isEcho l G h a0 x1 ev1) (cwV 1 hts (lw_V q1352 q1354 qs54 q89 q1355) rfl rfl rfl hdX4_isEcho ⟨Nat.le_of_ble_eq_true rfl, Nat.le_of_ble_eq_true rfl⟩) (ep_preV hK hZ hw rfl (ckX4_isEcho ev1)) rfl rfl hl.1 rfl (lv_room (Nat.le_of_ble_eq_true rfl)) dX4_cross_2 ⟨Nat.le_of_ble_eq_true rfl, Nat.le_of_ble_eq_true rfl⟩) hw (fun H locs hw => ?_)
  refine lv_if_eq (tgt := 21) hx hb dX4_cross_5 (by decide) (fun c2 => ?_) (fun c2 => ?_)
  · have hf := oi_t hf c2
    refine lv_iconst (v := iI (-1)) hx hb dX4_cross_21 rfl ?_
    exact ep_retiW hx hb hr hlocks hw hf dX4_cross_22
  · have hf := oi_f hf c2
    refine lv_aload_n hx hb dX4_cross_8 rfl (lv_at hl 0 rfl) ?_
    refine lv_iload_n hx hb dX4_cross_9 rfl (lv_at hl 2 rfl) ?_
    obtain ⟨v3, ev3, hf⟩ := ob_s hf
    refine ep_calli0 (va_runV (As := [.int x2]) (rest := []) ⟨hx, hb, hml, hown, hts⟩ (metX4_isEcho l G h a0 x2 ev3) (cwV 1 hts (lw_V q1352 q1354 qs54 q89 q1355) rfl rfl rfl hdX4_isEcho ⟨Nat.le_of_ble_eq_true rfl, Nat.le_of_ble_eq_true rfl⟩) (ep_preV hK hZ hw rfl (ckX4_isEcho ev3)) rfl rfl hl.1 rfl (lv_room (Nat.le_of_ble_eq_true rfl)) dX4_cross_10 ⟨Nat.le_of_ble_eq_true rfl, Nat.le_of_ble_eq_true rfl⟩) hw (fun H locs hw => ?_)
    refine lv_if_eq (tgt := 21) hx hb dX4_cross_13 (by decide) (fun c4 => ?_) (fun c4 => ?_)
    · have hf := oi_t hf c4
      refine lv_iconst (v := iI (-1)) hx hb dX4_cross_21 rfl ?_
      exact ep_retiW hx hb hr hlocks hw hf dX4_cross_22
    · have hf := oi_f hf c4
      refine lv_iload_n hx hb dX4_cross_16 rfl (lv_at hl 1 rfl) ?_
      refine lv_iload_n hx hb dX4_cross_17 rfl (lv_at hl 2 rfl) ?_
      refine lv_icmp_ne (tgt := 23) hx hb dX4_cross_18 (by decide) (fun c5 => ?_) (fun c5 => ?_)
      · have hf := oi_f hf c5
        refine lv_aload_n hx hb dX4_cross_23 rfl (lv_at hl 0 rfl) ?_
        obtain ⟨o6, eo6, hf⟩ := ob_s hf
        refine ep_callv0 (va_runV (As := []) (rest := []) ⟨hx, hb, hml, hown, hts⟩ (metX4_starts l G h a0 eo6) (cwV 0 hts (lw_V q1319 q1321 qs48 q89 q1322) rfl rfl rfl hdX4_starts ⟨Nat.le_of_ble_eq_true rfl, Nat.le_of_ble_eq_true rfl⟩) (ep_preV hK hZ hw rfl (ckX4_starts eo6)) rfl rfl hl.1 rfl (lv_room (Nat.le_of_ble_eq_true rfl)) dX4_cross_24 ⟨Nat.le_of_ble_eq_true rfl, Nat.le_of_ble_eq_true rfl⟩) hw (fun H locs hw => ?_)
        refine lv_aload_n hx hb dX4_cross_27 rfl (lv_at hl 0 rfl) ?_
        refine lv_iload_n hx hb dX4_cross_28 rfl (lv_at hl 1 rfl) ?_
        obtain ⟨v7, ev7, hf⟩ := ob_s hf
        refine ep_calli0 (va_runV (As := [.int x1]) (rest := []) ⟨hx, hb, hml, hown, hts⟩ (metX4_isSold l G o6 a0 x1 ev7) (cwV 1 hts (lw_V q1360 q1362 qs56 q89 q1363) rfl rfl rfl hdX4_isSold ⟨Nat.le_of_ble_eq_true rfl, Nat.le_of_ble_eq_true rfl⟩) (ep_preV hK hZ hw rfl (ckX4_isSold ev7)) rfl rfl hl.1 rfl (lv_room (Nat.le_of_ble_eq_true rfl)) dX4_cross_29 ⟨Nat.le_of_ble_eq_true rfl, Nat.le_of_ble_eq_true rfl⟩) hw (fun H locs hw => ?_)
        refine lv_if_ne (tgt := 50) hx hb dX4_cross_32 (by decide) (fun c8 => ?_) (fun c8 => ?_)
        · have hf := oi_f hf c8
          refine lv_bipush (v := iI (-2)) hx hb dX4_cross_50 (by decide) ?_
          exact ep_retiW hx hb hr hlocks hw hf dX4_cross_52
        · have hf := oi_t hf c8
          refine lv_aload_n hx hb dX4_cross_35 rfl (lv_at hl 0 rfl) ?_
          refine lv_iload_n hx hb dX4_cross_36 rfl (lv_at hl 1 rfl) ?_
          refine lv_iconst (v := iI 2) hx hb dX4_cross_37 rfl ?_
          obtain ⟨v9, ev9, hf⟩ := ob_s hf
          refine ep_calli0 (va_runV (As := [.int x1, .int (iI 2)]) (rest := []) ⟨hx, hb, hml, hown, hts⟩ (metX4_of l G o6 a0 x1 (iI 2) ev9) (cwV 2 hts (lw_V q1327 q1329 qs50 q89 q1330) rfl rfl rfl hdX4_of ⟨Nat.le_of_ble_eq_true rfl, Nat.le_of_ble_eq_true rfl⟩) (ep_preV hK hZ hw rfl (ckX4_of ev9)) rfl rfl hl.1 rfl (lv_room (Nat.le_of_ble_eq_true rfl)) dX4_cross_38 ⟨Nat.le_of_ble_eq_true rfl, Nat.le_of_ble_eq_true rfl⟩) hw (fun H locs hw => ?_)
          refine lv_aload_n hx hb dX4_cross_41 rfl (lv_at hl 0 rfl) ?_
          refine lv_iload_n hx hb dX4_cross_42 rfl (lv_at hl 2 rfl) ?_
          refine lv_iconst (v := iI 2) hx hb dX4_cross_43 rfl ?_
          obtain ⟨v10, ev10, hf⟩ := ob_s hf
          refine ep_calli0 (va_runV (As := [.int x2, .int (iI 2)]) (rest := [.int v9]) ⟨hx, hb, hml, hown, hts⟩ (metX4_of l G o6 a0 x2 (iI 2) ev10) (cwV 2 hts (lw_V q1327 q1329 qs50 q89 q1330) rfl rfl rfl hdX4_of ⟨Nat.le_of_ble_eq_true rfl, Nat.le_of_ble_eq_true rfl⟩) (ep_preV hK hZ hw rfl (ckX4_of ev10)) rfl rfl hl.1 rfl (lv_room (Nat.le_of_ble_eq_true rfl)) dX4_cross_44 ⟨Nat.le_of_ble_eq_true rfl, Nat.le_of_ble_eq_true rfl⟩) hw (fun H locs hw => ?_)
          refine lv_icmp_eq (tgt := 53) hx hb dX4_cross_47 (by decide) (fun c11 => ?_) (fun c11 => ?_)
          · have hf := oi_t hf c11
            refine lv_iconst (v := iI 3) hx hb dX4_cross_53 rfl ?_
            refine lv_istore_n (lv' := [(3, .int (iI 3)), (0, .ref a0), (1, .int x1), (2, .int x2)]) hx hb dX4_cross_54 rfl hl (by decide) rfl (fun ls hl => ?_)
            obtain ⟨o12, ho12, hf⟩ := ob_s hf
            have hJ12 : ∀ (H : Heap) (locs : List Loc) (ls : Array Slot), ep_W G ep_cl o12 s H locs → lv_has ls 4 [(0, .ref a0), (2, .int x2)] → wX4_cross p l e s m below meth c G h a0 x1 x2 res 0 0 H locs (F0 m 107 ls []) := by
              intro H locs ls hw hl
              refine lv_aload_n hx hb dX4_cross_107 rfl (lv_at hl 0 rfl) ?_
              refine lv_iload_n hx hb dX4_cross_108 rfl (lv_at hl 1 rfl) ?_
              refine lv_iconst (v := iI 3) hx hb dX4_cross_109 rfl ?_
              obtain ⟨v20, ev20, hf⟩ := ob_s hf
              refine ep_calli0 (va_runV (As := [.int x2, .int (iI 3)]) (rest := []) ⟨hx, hb, hml, hown, hts⟩ (metX4_of l G o12 a0 x2 (iI 3) ev20) (cwV 2 hts (lw_V q1327 q1329 qs50 q89 q1330) rfl rfl rfl hdX4_of ⟨Nat.le_of_ble_eq_true rfl, Nat.le_of_ble_eq_true rfl⟩) (ep_preV hK hZ hw rfl (ckX4_of ev20)) rfl rfl hl.1 rfl (lv_room (Nat.le_of_ble_eq_true rfl)) dX4_cross_110 ⟨Nat.le_of_ble_eq_true rfl, Nat.le_of_ble_eq_true rfl⟩) hw (fun H locs hw => ?_)
              exact ep_retiW hx hb hr hlocks hw hf dX4_cross_113
            have hL12 : ∀ (fu : Nat) (h : Hp) (x3 : Int32), fX4_cross_L55 a0 x1 x2 fu h x3 = some o12 → ∀ (H : Heap) (locs : List Loc) (ls : Array Slot), ep_W G ep_cl h s H locs → lv_has ls 4 [(0, .ref a0), (1, .int x1), (2, .int x2), (3, .int x3)] → wX4_cross p l e s m below meth c G h a0 x1 x2 res 0 0 H locs (F0 m 55 ls []) := by
              intro fu
              induction fu with
              | zero => intro h x3 ho12; cases ho12
              | succ fu ih12 =>
                intro h x3 ho12 H locs ls hw hl
                rw [fX4_cross_L55] at ho12
                refine lv_iload_n hx hb dX4_cross_55 rfl (lv_at hl 3 rfl) ?_
                refine lv_bipush (v := iI 9) hx hb dX4_cross_56 (by decide) ?_
                refine lv_icmp_ge (tgt := 107) hx hb dX4_cross_58 (by decide) (fun c13 => ?_) (fun c13 => ?_)
                · have ho12 := oi_t ho12 c13
                  obtain rfl := Option.some.inj ho12
                  exact hJ12 _ _ _ hw (lv_sub hl [0, 2] rfl)
                · have ho12 := oi_f ho12 c13
                  refine lv_aload_n hx hb dX4_cross_61 rfl (lv_at hl 0 rfl) ?_
                  obtain ⟨r14, er14, ho12⟩ := ob_s ho12
                  refine ep_get (C := RX4) (T := TX4) (N := 32) (ci := 4) hx hb hts in_X4 hown hK hw rfl 0 (by decide) q1139 (gR_f er14) dX4_cross_62 ?_
                  refine lv_bipush (v := iI 8) hx hb dX4_cross_65 (by decide) ?_
                  refine lv_bipush (v := iI 9) hx hb dX4_cross_67 (by decide) ?_
                  refine lv_iload_n hx hb dX4_cross_69 rfl (lv_at hl 1 rfl) ?_
                  refine lv_imul hx hb dX4_cross_70 ?_
                  refine lv_iadd hx hb dX4_cross_71 ?_
                  refine lv_iload_n hx hb dX4_cross_72 rfl (lv_at hl 3 rfl) ?_
                  refine lv_iadd hx hb dX4_cross_73 ?_
                  refine lv_aload_n hx hb dX4_cross_74 rfl (lv_at hl 0 rfl) ?_
                  refine lv_iload_n hx hb dX4_cross_75 rfl (lv_at hl 2 rfl) ?_
                  refine lv_iload_n hx hb dX4_cross_76 rfl (lv_at hl 3 rfl) ?_
                  obtain ⟨v15, ev15, ho12⟩ := ob_s ho12
                  refine ep_calli0 (va_runV (As := [.int x2, .int x3]) (rest := [.int (((iI 8) + ((iI 9) * x1)) + x3), .ref r14]) ⟨hx, hb, hml, hown, hts⟩ (metX4_of l G h a0 x2 x3 ev15) (cwV 2 hts (lw_V q1327 q1329 qs50 q89 q1330) rfl rfl rfl hdX4_of ⟨Nat.le_of_ble_eq_true rfl, Nat.le_of_ble_eq_true rfl⟩) (ep_preV hK hZ hw rfl (ckX4_of ev15)) rfl rfl hl.1 rfl (lv_room (Nat.le_of_ble_eq_true rfl)) dX4_cross_77 ⟨Nat.le_of_ble_eq_true rfl, Nat.le_of_ble_eq_true rfl⟩) hw (fun H locs hw => ?_)
                  obtain ⟨h16, eh16, ho12⟩ := ob_s ho12
                  refine ep_iast hx hb hK hw eh16 dX4_cross_80 (fun H locs hw => ?_)
                  refine lv_aload_n hx hb dX4_cross_81 rfl (lv_at hl 0 rfl) ?_
                  obtain ⟨r17, er17, ho12⟩ := ob_s ho12
                  refine ep_get (C := RX4) (T := TX4) (N := 32) (ci := 4) hx hb hts in_X4 hown hK hw rfl 0 (by decide) q1139 (gR_f er17) dX4_cross_82 ?_
                  refine lv_bipush (v := iI 8) hx hb dX4_cross_85 (by decide) ?_
                  refine lv_bipush (v := iI 9) hx hb dX4_cross_87 (by decide) ?_
                  refine lv_iload_n hx hb dX4_cross_89 rfl (lv_at hl 2 rfl) ?_
                  refine lv_imul hx hb dX4_cross_90 ?_
                  refine lv_iadd hx hb dX4_cross_91 ?_
                  refine lv_iload_n hx hb dX4_cross_92 rfl (lv_at hl 3 rfl) ?_
                  refine lv_iadd hx hb dX4_cross_93 ?_
                  refine lv_aload_n hx hb dX4_cross_94 rfl (lv_at hl 0 rfl) ?_
                  refine lv_iload_n hx hb dX4_cross_95 rfl (lv_at hl 1 rfl) ?_
                  refine lv_iload_n hx hb dX4_cross_96 rfl (lv_at hl 3 rfl) ?_
                  obtain ⟨v18, ev18, ho12⟩ := ob_s ho12
                  refine ep_calli0 (va_runV (As := [.int x1, .int x3]) (rest := [.int (((iI 8) + ((iI 9) * x2)) + x3), .ref r17]) ⟨hx, hb, hml, hown, hts⟩ (metX4_of l G h16 a0 x1 x3 ev18) (cwV 2 hts (lw_V q1327 q1329 qs50 q89 q1330) rfl rfl rfl hdX4_of ⟨Nat.le_of_ble_eq_true rfl, Nat.le_of_ble_eq_true rfl⟩) (ep_preV hK hZ hw rfl (ckX4_of ev18)) rfl rfl hl.1 rfl (lv_room (Nat.le_of_ble_eq_true rfl)) dX4_cross_97 ⟨Nat.le_of_ble_eq_true rfl, Nat.le_of_ble_eq_true rfl⟩) hw (fun H locs hw => ?_)
                  obtain ⟨h19, eh19, ho12⟩ := ob_s ho12
                  refine ep_iast hx hb hK hw eh19 dX4_cross_100 (fun H locs hw => ?_)
                  refine lv_iinc (v := (x3 + iI 1)) (lv' := [(3, .int (x3 + iI 1)), (0, .ref a0), (1, .int x1), (2, .int x2)]) hx hb dX4_cross_101 hl (k := 3) rfl rfl (by decide) rfl (fun ls hl => ?_)
                  refine lv_goto (tgt := 55) hx hb dX4_cross_104 (by decide) ?_
                  exact ih12 _ _ ho12 _ _ _ hw (lv_sub hl [1, 2, 3, 0] rfl)
            exact hL12 FUEL _ _ ho12 _ _ _ hw (lv_sub hl [1, 2, 3, 0] rfl)
          · have hf := oi_f hf c11
            refine lv_bipush (v := iI (-2)) hx hb dX4_cross_50 (by decide) ?_
            exact ep_retiW hx hb hr hlocks hw hf dX4_cross_52
      · have hf := oi_t hf c5
        refine lv_iconst (v := iI (-1)) hx hb dX4_cross_21 rfl ?_
        exact ep_retiW hx hb hr hlocks hw hf dX4_cross_22
theorem hdX4_isWildOne : yX4_isWildOne.cls = RX4 ∧ yX4_isWildOne.cls ≠ "java/lang/invoke/MethodHandle" ∧ yX4_isWildOne.cls ≠ "java/lang/invoke/VarHandle" ∧ (parseMethodDescriptor yX4_isWildOne.desc).map (fun d => d.parameters.length) = some 1 := by decide +kernel
theorem ckX4_isWildOne {h : Hp} {a0 : Nat} {x1 : Int32} {res : Int32} (hf : fX4_isWildOne h a0 x1 = some res) : ep_cls h a0 = some 4 := by
  unfold fX4_isWildOne at hf
  exact (oi_c hf).1
abbrev wX4_isWildOne (p : Program) (l : Launch) (e : Env) (s : State) (m : MethodId) (below : List Frame) (meth : Method) (c : Code) (G : EG) (h : Hp) (a0 : Nat) (x1 : Int32) (res : Int32) (k9 n9 : Nat) (H : Heap) (locs : List Loc) (g : JFrame) : Prop := W p l e (headSpec (ws_ yX4_isWildOne cX4_isWildOne 2 (some .boolean)) ({ frames := 2, cells := 0, slots := 0, locals := 43 } : Room)).room s m ([.ref a0, .int x1] : List Value).toArray below meth c H locs k9 n9 (MQ below (ep_Qi G ep_cl h res) ([.ref a0, .int x1] : List Value).toArray s 0 0 (ep_A G)) g
set_option maxHeartbeats 4000000 in
theorem metX4_isWildOne (l : Launch) (G : EG) (h : Hp) (a0 : Nat) (x1 : Int32) {res : Int32} (hf : fX4_isWildOne h a0 x1 = some res) : Met l yX4_isWildOne (ws_ yX4_isWildOne cX4_isWildOne 2 (some .boolean)) ({ frames := 2, cells := 0, slots := 0, locals := 43 } : Room) (ep_Pc G ep_cl h [.ref a0, .int x1]) (ep_Qi G ep_cl h res) 0 0 (ep_A G) := by
  refine Met.ofW (cc := cX4_isWildOne) (maxL := 2) (ret := (some .boolean)) (by decide) rfl ?_
  intro p e s m args below meth c s₁ B hml hv
  obtain ⟨rfl, hR, hK, hZ⟩ := hv
  have hx := B.exec
  have hb := B.bytes
  have hr := B.returns
  have hlocks := B.notSynchronized
  have hts := atoms_spec (ws := (ws_ yX4_isWildOne cX4_isWildOne 2 (some .boolean))) B.pre
  have hts : ∀ w ∈ lw_all, w.before _ s = true := fun w h => hts w (List.mem_cons_of_mem _ h)
  have hown : s.vm.findClass RX4 = some m.cls := findClass_of_methodNamed B.named
  have hw : ep_W G ep_cl h s s.heap [] := ⟨hR, va_S.rf⟩
  have hl := lv_entry ([.ref a0, .int x1]) (n := 2) (Nat.le_of_ble_eq_true rfl)
  rw [lg_entry_eq]
  generalize (lg_sl ([.ref a0, .int x1]) ++ List.replicate (2 - (lg_sl ([.ref a0, .int x1])).length) Slot.unset).toArray = ls at hl ⊢
  have hl : lv_has ls 2 [(0, .ref a0), (1, .int x1)] := hl
  unfold fX4_isWildOne at hf
  have hf := (oi_c hf).2
  show wX4_isWildOne p l e s m below meth c G h a0 x1 res 0 0 s.heap ([]) (F0 m 0 ls [])
  refine lv_aload_n hx hb dX4_isWildOne_0 rfl (lv_at hl 0 rfl) ?_
  refine lv_iload_n hx hb dX4_isWildOne_1 rfl (lv_at hl 1 rfl) ?_
  refine lv_iconst (v := iI 0) hx hb dX4_isWildOne_2 rfl ?_
  obtain ⟨v1, ev1, hf⟩ := ob_s hf
  refine ep_calli0 (va_runV (As := [.int x1, .int (iI 0)]) (rest := []) ⟨hx, hb, hml, hown, hts⟩ (metX4_of l G h a0 x1 (iI 0) ev1) (cwV 2 hts (lw_V q1327 q1329 qs50 q89 q1330) rfl rfl rfl hdX4_of ⟨Nat.le_of_ble_eq_true rfl, Nat.le_of_ble_eq_true rfl⟩) (ep_preV hK hZ hw rfl (ckX4_of ev1)) rfl rfl hl.1 rfl (lv_room (Nat.le_of_ble_eq_true rfl)) dX4_isWildOne_3 ⟨Nat.le_of_ble_eq_true rfl, Nat.le_of_ble_eq_true rfl⟩) hw (fun H locs hw => ?_)
  refine lv_iconst (v := iI 3) hx hb dX4_isWildOne_6 rfl ?_
  refine lv_icmp_ne (tgt := 22) hx hb dX4_isWildOne_7 (by decide) (fun c2 => ?_) (fun c2 => ?_)
  · have hf := oi_f hf c2
    refine lv_iconst (v := iI 0) hx hb dX4_isWildOne_22 rfl ?_
    exact ep_retzR hx hb hr rfl hlocks hw hf dX4_isWildOne_23
  · have hf := oi_t hf c2
    refine lv_aload_n hx hb dX4_isWildOne_10 rfl (lv_at hl 0 rfl) ?_
    refine lv_iload_n hx hb dX4_isWildOne_11 rfl (lv_at hl 1 rfl) ?_
    obtain ⟨v3, ev3, hf⟩ := ob_s hf
    refine ep_calli0 (va_runV (As := [.int x1]) (rest := []) ⟨hx, hb, hml, hown, hts⟩ (metX4_isSilent l G h a0 x1 ev3) (cwV 1 hts (lw_V q1335 q1337 qs52 q89 q1338) rfl rfl rfl hdX4_isSilent ⟨Nat.le_of_ble_eq_true rfl, Nat.le_of_ble_eq_true rfl⟩) (ep_preV hK hZ hw rfl (ckX4_isSilent ev3)) rfl rfl hl.1 rfl (lv_room (Nat.le_of_ble_eq_true rfl)) dX4_isWildOne_12 ⟨Nat.le_of_ble_eq_true rfl, Nat.le_of_ble_eq_true rfl⟩) hw (fun H locs hw => ?_)
    refine lv_if_ne (tgt := 22) hx hb dX4_isWildOne_15 (by decide) (fun c4 => ?_) (fun c4 => ?_)
    · have hf := oi_f hf c4
      refine lv_iconst (v := iI 0) hx hb dX4_isWildOne_22 rfl ?_
      exact ep_retzR hx hb hr rfl hlocks hw hf dX4_isWildOne_23
    · have hf := oi_t hf c4
      refine lv_iconst (v := iI 1) hx hb dX4_isWildOne_18 rfl ?_
      refine lv_goto (tgt := 23) hx hb dX4_isWildOne_19 (by decide) ?_
      exact ep_retzR hx hb hr rfl hlocks hw hf dX4_isWildOne_23
theorem hdX4_growthOf : yX4_growthOf.cls = RX4 ∧ yX4_growthOf.cls ≠ "java/lang/invoke/MethodHandle" ∧ yX4_growthOf.cls ≠ "java/lang/invoke/VarHandle" ∧ (parseMethodDescriptor yX4_growthOf.desc).map (fun d => d.parameters.length) = some 1 := by decide +kernel
theorem ckX4_growthOf {h : Hp} {a0 : Nat} {x1 : Int32} {res : Int32} (hf : fX4_growthOf h a0 x1 = some res) : ep_cls h a0 = some 4 := by
  unfold fX4_growthOf at hf
  exact (oi_c hf).1
abbrev wX4_growthOf (p : Program) (l : Launch) (e : Env) (s : State) (m : MethodId) (below : List Frame) (meth : Method) (c : Code) (G : EG) (h : Hp) (a0 : Nat) (x1 : Int32) (res : Int32) (k9 n9 : Nat) (H : Heap) (locs : List Loc) (g : JFrame) : Prop := W p l e (headSpec (ws_ yX4_growthOf cX4_growthOf 4 (some .int)) ({ frames := 1, cells := 0, slots := 0, locals := 22 } : Room)).room s m ([.ref a0, .int x1] : List Value).toArray below meth c H locs k9 n9 (MQ below (ep_Qi G ep_cl h res) ([.ref a0, .int x1] : List Value).toArray s 0 0 (ep_A G)) g
set_option maxHeartbeats 4000000 in
theorem metX4_growthOf (l : Launch) (G : EG) (h : Hp) (a0 : Nat) (x1 : Int32) {res : Int32} (hf : fX4_growthOf h a0 x1 = some res) : Met l yX4_growthOf (ws_ yX4_growthOf cX4_growthOf 4 (some .int)) ({ frames := 1, cells := 0, slots := 0, locals := 22 } : Room) (ep_Pc G ep_cl h [.ref a0, .int x1]) (ep_Qi G ep_cl h res) 0 0 (ep_A G) := by
  refine Met.ofW (cc := cX4_growthOf) (maxL := 4) (ret := (some .int)) (by decide) rfl ?_
  intro p e s m args below meth c s₁ B hml hv
  obtain ⟨rfl, hR, hK, hZ⟩ := hv
  have hx := B.exec
  have hb := B.bytes
  have hr := B.returns
  have hlocks := B.notSynchronized
  have hts := atoms_spec (ws := (ws_ yX4_growthOf cX4_growthOf 4 (some .int))) B.pre
  have hts : ∀ w ∈ lw_all, w.before _ s = true := fun w h => hts w (List.mem_cons_of_mem _ h)
  have hown : s.vm.findClass RX4 = some m.cls := findClass_of_methodNamed B.named
  have hw : ep_W G ep_cl h s s.heap [] := ⟨hR, va_S.rf⟩
  have hl := lv_entry ([.ref a0, .int x1]) (n := 4) (Nat.le_of_ble_eq_true rfl)
  rw [lg_entry_eq]
  generalize (lg_sl ([.ref a0, .int x1]) ++ List.replicate (4 - (lg_sl ([.ref a0, .int x1])).length) Slot.unset).toArray = ls at hl ⊢
  have hl : lv_has ls 4 [(0, .ref a0), (1, .int x1)] := hl
  unfold fX4_growthOf at hf
  have hf := (oi_c hf).2
  show wX4_growthOf p l e s m below meth c G h a0 x1 res 0 0 s.heap ([]) (F0 m 0 ls [])
  refine lv_iconst (v := iI 0) hx hb dX4_growthOf_0 rfl ?_
  refine lv_istore_n (lv' := [(2, .int (iI 0)), (0, .ref a0), (1, .int x1)]) hx hb dX4_growthOf_1 rfl hl (by decide) rfl (fun ls hl => ?_)
  refine lv_iconst (v := iI 0) hx hb dX4_growthOf_2 rfl ?_
  refine lv_istore_n (lv' := [(3, .int (iI 0)), (2, .int (iI 0)), (0, .ref a0), (1, .int x1)]) hx hb dX4_growthOf_3 rfl hl (by decide) rfl (fun ls hl => ?_)
  obtain ⟨o1, ho1, hf⟩ := ob_s hf
  have hJ1 : ∀ (H : Heap) (locs : List Loc) (ls : Array Slot), ep_W G ep_cl h s H locs → lv_has ls 4 [(0, .ref a0), (1, .int x1), (2, .int o1)] → wX4_growthOf p l e s m below meth c G h a0 x1 res 0 0 H locs (F0 m 60 ls []) := by
    intro H locs ls hw hl
    refine lv_aload_n hx hb dX4_growthOf_60 rfl (lv_at hl 0 rfl) ?_
    refine lv_iload_n hx hb dX4_growthOf_61 rfl (lv_at hl 1 rfl) ?_
    refine lv_iconst (v := iI 0) hx hb dX4_growthOf_62 rfl ?_
    obtain ⟨v12, ev12, hf⟩ := ob_s hf
    refine ep_calli0 (va_runV (As := [.int x1, .int (iI 0)]) (rest := []) ⟨hx, hb, hml, hown, hts⟩ (metX4_of l G h a0 x1 (iI 0) ev12) (cwV 2 hts (lw_V q1327 q1329 qs50 q89 q1330) rfl rfl rfl hdX4_of ⟨Nat.le_of_ble_eq_true rfl, Nat.le_of_ble_eq_true rfl⟩) (ep_preV hK hZ hw rfl (ckX4_of ev12)) rfl rfl hl.1 rfl (lv_room (Nat.le_of_ble_eq_true rfl)) dX4_growthOf_63 ⟨Nat.le_of_ble_eq_true rfl, Nat.le_of_ble_eq_true rfl⟩) hw (fun H locs hw => ?_)
    refine lv_istore_n (lv' := [(3, .int v12), (0, .ref a0), (1, .int x1), (2, .int o1)]) hx hb dX4_growthOf_66 rfl hl (by decide) rfl (fun ls hl => ?_)
    refine lv_iload_n hx hb dX4_growthOf_67 rfl (lv_at hl 0 rfl) ?_
    refine lv_iconst (v := iI 1) hx hb dX4_growthOf_68 rfl ?_
    refine lv_icmp_eq (tgt := 77) hx hb dX4_growthOf_69 (by decide) (fun c13 => ?_) (fun c13 => ?_)
    · have hf := oi_t hf c13
      refine lv_iconst (v := iI 2) hx hb dX4_growthOf_77 rfl ?_
      refine lv_iload_n hx hb dX4_growthOf_78 rfl (lv_at hl 3 rfl) ?_
      refine lv_imul hx hb dX4_growthOf_79 ?_
      refine lv_goto (tgt := 98) hx hb dX4_growthOf_80 (by decide) ?_
      exact ep_retiR hx hb hr hlocks hw hf dX4_growthOf_98
    · have hf := oi_f hf c13
      refine lv_iload_n hx hb dX4_growthOf_72 rfl (lv_at hl 0 rfl) ?_
      refine lv_iconst (v := iI 3) hx hb dX4_growthOf_73 rfl ?_
      refine lv_icmp_ne (tgt := 83) hx hb dX4_growthOf_74 (by decide) (fun c14 => ?_) (fun c14 => ?_)
      · have hf := oi_f hf c14
        refine lv_iload_n hx hb dX4_growthOf_83 rfl (lv_at hl 0 rfl) ?_
        refine lv_iconst (v := iI 2) hx hb dX4_growthOf_84 rfl ?_
        refine lv_icmp_ne (tgt := 97) hx hb dX4_growthOf_85 (by decide) (fun c15 => ?_) (fun c15 => ?_)
        · have hf := oi_f hf c15
          refine lv_iload_n hx hb dX4_growthOf_97 rfl (lv_at hl 3 rfl) ?_
          exact ep_retiR hx hb hr hlocks hw hf dX4_growthOf_98
        · have hf := oi_t hf c15
          refine lv_iload_n hx hb dX4_growthOf_88 rfl (lv_at hl 3 rfl) ?_
          refine lv_iconst (v := iI 1) hx hb dX4_growthOf_89 rfl ?_
          refine lv_icmp_le (tgt := 97) hx hb dX4_growthOf_90 (by decide) (fun c16 => ?_) (fun c16 => ?_)
          · have hf := oi_t hf c16
            refine lv_iload_n hx hb dX4_growthOf_97 rfl (lv_at hl 3 rfl) ?_
            exact ep_retiR hx hb hr hlocks hw hf dX4_growthOf_98
          · have hf := oi_f hf c16
            refine lv_iconst (v := iI 1) hx hb dX4_growthOf_93 rfl ?_
            refine lv_goto (tgt := 98) hx hb dX4_growthOf_94 (by decide) ?_
            exact ep_retiR hx hb hr hlocks hw hf dX4_growthOf_98
      · have hf := oi_t hf c14
        refine lv_iconst (v := iI 2) hx hb dX4_growthOf_77 rfl ?_
        refine lv_iload_n hx hb dX4_growthOf_78 rfl (lv_at hl 3 rfl) ?_
        refine lv_imul hx hb dX4_growthOf_79 ?_
        refine lv_goto (tgt := 98) hx hb dX4_growthOf_80 (by decide) ?_
        exact ep_retiR hx hb hr hlocks hw hf dX4_growthOf_98
  have hL1 : ∀ (fu : Nat) (x2 : Int32) (x3 : Int32), fX4_growthOf_L4 h a0 x1 fu x2 x3 = some o1 → ∀ (H : Heap) (locs : List Loc) (ls : Array Slot), ep_W G ep_cl h s H locs → lv_has ls 4 [(0, .ref a0), (1, .int x1), (2, .int x2), (3, .int x3)] → wX4_growthOf p l e s m below meth c G h a0 x1 res 0 0 H locs (F0 m 4 ls []) := by
    intro fu
    induction fu with
    | zero => intro x2 x3 ho1; cases ho1
    | succ fu ih1 =>
      intro x2 x3 ho1 H locs ls hw hl
      rw [fX4_growthOf_L4] at ho1
      refine lv_iload_n hx hb dX4_growthOf_4 rfl (lv_at hl 3 rfl) ?_
      refine lv_aload_n hx hb dX4_growthOf_5 rfl (lv_at hl 0 rfl) ?_
      refine lv_iload_n hx hb dX4_growthOf_6 rfl (lv_at hl 1 rfl) ?_
      refine lv_iconst (v := iI 3) hx hb dX4_growthOf_7 rfl ?_
      obtain ⟨v2, ev2, ho1⟩ := ob_s ho1
      refine ep_calli0 (va_runV (As := [.int x1, .int (iI 3)]) (rest := [.int x3]) ⟨hx, hb, hml, hown, hts⟩ (metX4_of l G h a0 x1 (iI 3) ev2) (cwV 2 hts (lw_V q1327 q1329 qs50 q89 q1330) rfl rfl rfl hdX4_of ⟨Nat.le_of_ble_eq_true rfl, Nat.le_of_ble_eq_true rfl⟩) (ep_preV hK hZ hw rfl (ckX4_of ev2)) rfl rfl hl.1 rfl (lv_room (Nat.le_of_ble_eq_true rfl)) dX4_growthOf_8 ⟨Nat.le_of_ble_eq_true rfl, Nat.le_of_ble_eq_true rfl⟩) hw (fun H locs hw => ?_)
      refine lv_icmp_ge (tgt := 60) hx hb dX4_growthOf_11 (by decide) (fun c3 => ?_) (fun c3 => ?_)
      · have ho1 := oi_t ho1 c3
        obtain rfl := Option.some.inj ho1
        exact hJ1 _ _ _ hw (lv_sub hl [0, 1, 2] rfl)
      · have ho1 := oi_f ho1 c3
        refine lv_iload_n hx hb dX4_growthOf_14 rfl (lv_at hl 2 rfl) ?_
        refine lv_aload_n hx hb dX4_growthOf_15 rfl (lv_at hl 0 rfl) ?_
        refine lv_iload_n hx hb dX4_growthOf_16 rfl (lv_at hl 1 rfl) ?_
        refine lv_iconst (v := iI 4) hx hb dX4_growthOf_17 rfl ?_
        refine lv_iload_n hx hb dX4_growthOf_18 rfl (lv_at hl 3 rfl) ?_
        refine lv_iadd hx hb dX4_growthOf_19 ?_
        obtain ⟨v4, ev4, ho1⟩ := ob_s ho1
        refine ep_calli0 (va_runV (As := [.int x1, .int ((iI 4) + x3)]) (rest := [.int x2]) ⟨hx, hb, hml, hown, hts⟩ (metX4_of l G h a0 x1 ((iI 4) + x3) ev4) (cwV 2 hts (lw_V q1327 q1329 qs50 q89 q1330) rfl rfl rfl hdX4_of ⟨Nat.le_of_ble_eq_true rfl, Nat.le_of_ble_eq_true rfl⟩) (ep_preV hK hZ hw rfl (ckX4_of ev4)) rfl rfl hl.1 rfl (lv_room (Nat.le_of_ble_eq_true rfl)) dX4_growthOf_20 ⟨Nat.le_of_ble_eq_true rfl, Nat.le_of_ble_eq_true rfl⟩) hw (fun H locs hw => ?_)
        obtain ⟨v5, ev5, ho1⟩ := ob_s ho1
        refine ep_calli0 (va_runS (As := [.int v4]) (rest := [.int x2]) ⟨hx, hb, hml, hown, hts⟩ (metX4_vowelOf l G h v4 ev5) (va_cwS 1 hts (lw_S q1293 q1294 q89 q1295) rfl rfl rfl hsX4_vowelOf ⟨Nat.le_of_ble_eq_true rfl, Nat.le_of_ble_eq_true rfl⟩) (ep_preS hK hZ hw) rfl rfl hl.1 rfl (lv_room (Nat.le_of_ble_eq_true rfl)) dX4_growthOf_23 ⟨Nat.le_of_ble_eq_true rfl, Nat.le_of_ble_eq_true rfl⟩) hw (fun H locs hw => ?_)
        refine lv_aload_n hx hb dX4_growthOf_26 rfl (lv_at hl 0 rfl) ?_
        obtain ⟨r6, er6, ho1⟩ := ob_s ho1
        refine ep_get (C := RX4) (T := TX4) (N := 32) (ci := 4) hx hb hts in_X4 hown hK hw rfl 1 (by decide) q1140 (gR_f er6) dX4_growthOf_27 ?_
        refine lv_iconst (v := iI 2) hx hb dX4_growthOf_30 rfl ?_
        refine lv_aload_n hx hb dX4_growthOf_31 rfl (lv_at hl 0 rfl) ?_
        refine lv_iload_n hx hb dX4_growthOf_32 rfl (lv_at hl 1 rfl) ?_
        refine lv_iconst (v := iI 2) hx hb dX4_growthOf_33 rfl ?_
        obtain ⟨v7, ev7, ho1⟩ := ob_s ho1
        refine ep_calli0 (va_runV (As := [.int x1, .int (iI 2)]) (rest := [.int (iI 2), .ref r6, .int v5, .int x2]) ⟨hx, hb, hml, hown, hts⟩ (metX4_of l G h a0 x1 (iI 2) ev7) (cwV 2 hts (lw_V q1327 q1329 qs50 q89 q1330) rfl rfl rfl hdX4_of ⟨Nat.le_of_ble_eq_true rfl, Nat.le_of_ble_eq_true rfl⟩) (ep_preV hK hZ hw rfl (ckX4_of ev7)) rfl rfl hl.1 rfl (lv_room (Nat.le_of_ble_eq_true rfl)) dX4_growthOf_34 ⟨Nat.le_of_ble_eq_true rfl, Nat.le_of_ble_eq_true rfl⟩) hw (fun H locs hw => ?_)
        refine lv_imul hx hb dX4_growthOf_37 ?_
        refine lv_iconst (v := iI 1) hx hb dX4_growthOf_38 rfl ?_
        refine lv_iadd hx hb dX4_growthOf_39 ?_
        obtain ⟨v8, ev8, ho1⟩ := ob_s ho1
        refine ep_iald hx hb hK hw ev8 dX4_growthOf_40 ?_
        have hJ9 : wX4_growthOf p l e s m below meth c G h a0 x1 res 0 0 H locs (F0 m 49 ls [.int (if v5 = v8 then iI 1 else iI 0), .int x2]) := by
          obtain ⟨v11, ev11, ho1⟩ := ob_s ho1
          refine ep_calli0 (va_runS (As := [.int (if v5 = v8 then iI 1 else iI 0)]) (rest := [.int x2]) ⟨hx, hb, hml, hown, hts⟩ (metX4_flag l G h (if v5 = v8 then iI 1 else iI 0) ev11) (va_cwS 1 hts (lw_S q1308 q1309 q89 q1310) rfl rfl rfl hsX4_flag ⟨Nat.le_of_ble_eq_true rfl, Nat.le_of_ble_eq_true rfl⟩) (ep_preS hK hZ hw) rfl rfl hl.1 rfl (lv_room (Nat.le_of_ble_eq_true rfl)) dX4_growthOf_49 ⟨Nat.le_of_ble_eq_true rfl, Nat.le_of_ble_eq_true rfl⟩) hw (fun H locs hw => ?_)
          refine lv_iadd hx hb dX4_growthOf_52 ?_
          refine lv_istore_n (lv' := [(2, .int (x2 + v11)), (0, .ref a0), (1, .int x1), (3, .int x3)]) hx hb dX4_growthOf_53 rfl hl (by decide) rfl (fun ls hl => ?_)
          refine lv_iinc (v := (x3 + iI 1)) (lv' := [(3, .int (x3 + iI 1)), (2, .int (x2 + v11)), (0, .ref a0), (1, .int x1)]) hx hb dX4_growthOf_54 hl (k := 3) rfl rfl (by decide) rfl (fun ls hl => ?_)
          refine lv_goto (tgt := 4) hx hb dX4_growthOf_57 (by decide) ?_
          exact ih1 _ _ ho1 _ _ _ hw (lv_sub hl [2, 3, 1, 0] rfl)
        refine lv_icmp_ne (tgt := 48) hx hb dX4_growthOf_41 (by decide) (fun c10 => ?_) (fun c10 => ?_)
        · refine lv_iconst (v := iI 0) hx hb dX4_growthOf_48 rfl ?_
          rw [if_neg c10] at hJ9
          exact hJ9
        · refine lv_iconst (v := iI 1) hx hb dX4_growthOf_44 rfl ?_
          refine lv_goto (tgt := 49) hx hb dX4_growthOf_45 (by decide) ?_
          rw [if_pos c10] at hJ9
          exact hJ9
  exact hL1 FUEL _ _ ho1 _ _ _ hw (lv_sub hl [2, 3, 1, 0] rfl)
theorem hdX4_weekGoes : yX4_weekGoes.cls = RX4 ∧ yX4_weekGoes.cls ≠ "java/lang/invoke/MethodHandle" ∧ yX4_weekGoes.cls ≠ "java/lang/invoke/VarHandle" ∧ (parseMethodDescriptor yX4_weekGoes.desc).map (fun d => d.parameters.length) = some 0 := by decide +kernel
theorem ckX4_weekGoes {h : Hp} {a0 : Nat} {res : Hp} (hf : fX4_weekGoes h a0 = some res) : ep_cls h a0 = some 4 := by
  unfold fX4_weekGoes at hf
  exact (oi_c hf).1
abbrev wX4_weekGoes (p : Program) (l : Launch) (e : Env) (s : State) (m : MethodId) (below : List Frame) (meth : Method) (c : Code) (G : EG) (h : Hp) (a0 : Nat) (res : Hp) (k9 n9 : Nat) (H : Heap) (locs : List Loc) (g : JFrame) : Prop := W p l e (headSpec (ws_ yX4_weekGoes cX4_weekGoes 4 none) ({ frames := 3, cells := 0, slots := 0, locals := 64 } : Room)).room s m ([.ref a0] : List Value).toArray below meth c H locs k9 n9 (MQ below (ep_Qv G ep_cl res) ([.ref a0] : List Value).toArray s 0 0 (ep_A G)) g
set_option maxHeartbeats 4000000 in
theorem metX4_weekGoes (l : Launch) (G : EG) (h : Hp) (a0 : Nat) {res : Hp} (hf : fX4_weekGoes h a0 = some res) : Met l yX4_weekGoes (ws_ yX4_weekGoes cX4_weekGoes 4 none) ({ frames := 3, cells := 0, slots := 0, locals := 64 } : Room) (ep_Pc G ep_cl h [.ref a0]) (ep_Qv G ep_cl res) 0 0 (ep_A G) := by
  refine Met.ofW (cc := cX4_weekGoes) (maxL := 4) (ret := none) (by decide) rfl ?_
  intro p e s m args below meth c s₁ B hml hv
  obtain ⟨rfl, hR, hK, hZ⟩ := hv
  have hx := B.exec
  have hb := B.bytes
  have hr := B.returns
  have hlocks := B.notSynchronized
  have hts := atoms_spec (ws := (ws_ yX4_weekGoes cX4_weekGoes 4 none)) B.pre
  have hts : ∀ w ∈ lw_all, w.before _ s = true := fun w h => hts w (List.mem_cons_of_mem _ h)
  have hown : s.vm.findClass RX4 = some m.cls := findClass_of_methodNamed B.named
  have hw : ep_W G ep_cl h s s.heap [] := ⟨hR, va_S.rf⟩
  have hl := lv_entry ([.ref a0]) (n := 4) (Nat.le_of_ble_eq_true rfl)
  rw [lg_entry_eq]
  generalize (lg_sl ([.ref a0]) ++ List.replicate (4 - (lg_sl ([.ref a0])).length) Slot.unset).toArray = ls at hl ⊢
  have hl : lv_has ls 4 [(0, .ref a0)] := hl
  unfold fX4_weekGoes at hf
  have hf := (oi_c hf).2
  show wX4_weekGoes p l e s m below meth c G h a0 res 0 0 s.heap ([]) (F0 m 0 ls [])
  refine lv_iconst (v := iI 0) hx hb dX4_weekGoes_0 rfl ?_
  refine lv_istore_n (lv' := [(1, .int (iI 0)), (0, .ref a0)]) hx hb dX4_weekGoes_1 rfl hl (by decide) rfl (fun ls hl => ?_)
  refine lv_iconst (v := iI 0) hx hb dX4_weekGoes_2 rfl ?_
  refine lv_istore_n (lv' := [(2, .int (iI 0)), (1, .int (iI 0)), (0, .ref a0)]) hx hb dX4_weekGoes_3 rfl hl (by decide) rfl (fun ls hl => ?_)
  obtain ⟨o1, ho1, hf⟩ := ob_s hf
  have hJ1 : ∀ (H : Heap) (locs : List Loc) (ls : Array Slot), ep_W G ep_cl h s H locs → lv_has ls 4 [(0, .ref a0), (1, .int o1)] → wX4_weekGoes p l e s m below meth c G h a0 res 0 0 H locs (F0 m 88 ls []) := by
    intro H locs ls hw hl
    refine lv_iconst (v := iI 0) hx hb dX4_weekGoes_88 rfl ?_
    refine lv_istore_n (lv' := [(2, .int (iI 0)), (0, .ref a0), (1, .int o1)]) hx hb dX4_weekGoes_89 rfl hl (by decide) rfl (fun ls hl => ?_)
    obtain ⟨o18, ho18, hf⟩ := ob_s hf
    have hJ18 : ∀ (H : Heap) (locs : List Loc) (ls : Array Slot), ep_W G ep_cl o18 s H locs → lv_has ls 4 [(0, .ref a0)] → wX4_weekGoes p l e s m below meth c G h a0 res 0 0 H locs (F0 m 167 ls []) := by
      intro H locs ls hw hl
      refine lv_aload_n hx hb dX4_weekGoes_167 rfl (lv_at hl 0 rfl) ?_
      obtain ⟨r34, er34, hf⟩ := ob_s hf
      refine ep_get (C := RX4) (T := TX4) (N := 32) (ci := 4) hx hb hts in_X4 hown hK hw rfl 1 (by decide) q1140 (gR_f er34) dX4_weekGoes_168 ?_
      refine lv_bipush (v := iI 54) hx hb dX4_weekGoes_171 (by decide) ?_
      refine lv_dup2_11 hx hb dX4_weekGoes_173 rfl rfl ?_
      obtain ⟨v35, ev35, hf⟩ := ob_s hf
      refine ep_iald hx hb hK hw ev35 dX4_weekGoes_174 ?_
      refine lv_iconst (v := iI 1) hx hb dX4_weekGoes_175 rfl ?_
      refine lv_iadd hx hb dX4_weekGoes_176 ?_
      obtain ⟨h36, eh36, hf⟩ := ob_s hf
      refine ep_iast hx hb hK hw eh36 dX4_weekGoes_177 (fun H locs hw => ?_)
      exact ep_retvW hx hb hr hlocks hw hf dX4_weekGoes_178
    have hL18 : ∀ (fu : Nat) (h : Hp) (x2 : Int32), fX4_weekGoes_L90 a0 o1 fu h x2 = some o18 → ∀ (H : Heap) (locs : List Loc) (ls : Array Slot), ep_W G ep_cl h s H locs → lv_has ls 4 [(0, .ref a0), (1, .int o1), (2, .int x2)] → wX4_weekGoes p l e s m below meth c G h a0 res 0 0 H locs (F0 m 90 ls []) := by
      intro fu
      induction fu with
      | zero => intro h x2 ho18; cases ho18
      | succ fu ih18 =>
        intro h x2 ho18 H locs ls hw hl
        rw [fX4_weekGoes_L90] at ho18
        refine lv_iload_n hx hb dX4_weekGoes_90 rfl (lv_at hl 2 rfl) ?_
        refine lv_aload_n hx hb dX4_weekGoes_91 rfl (lv_at hl 0 rfl) ?_
        obtain ⟨v19, ev19, ho18⟩ := ob_s ho18
        refine ep_get (C := RX4) (T := TX4) (N := 32) (ci := 4) hx hb hts in_X4 hown hK hw rfl 4 (by decide) q1143 (gI_f ev19) dX4_weekGoes_92 ?_
        refine lv_icmp_ge (tgt := 167) hx hb dX4_weekGoes_95 (by decide) (fun c20 => ?_) (fun c20 => ?_)
        · have ho18 := oi_t ho18 c20
          obtain rfl := Option.some.inj ho18
          exact hJ18 _ _ _ hw (lv_sub hl [0] rfl)
        · have ho18 := oi_f ho18 c20
          refine lv_iload_n hx hb dX4_weekGoes_98 rfl (lv_at hl 1 rfl) ?_
          refine lv_iload_n hx hb dX4_weekGoes_99 rfl (lv_at hl 2 rfl) ?_
          refine lv_ishr hx hb dX4_weekGoes_100 ?_
          refine lv_iconst (v := iI 1) hx hb dX4_weekGoes_101 rfl ?_
          refine lv_iand hx hb dX4_weekGoes_102 ?_
          refine lv_iconst (v := iI 1) hx hb dX4_weekGoes_103 rfl ?_
          obtain ⟨o21, ho21, ho18⟩ := ob_s ho18
          have hJ21 : ∀ (H : Heap) (locs : List Loc) (ls : Array Slot), ep_W G ep_cl o21 s H locs → lv_has ls 4 [(0, .ref a0), (1, .int o1), (2, .int x2)] → wX4_weekGoes p l e s m below meth c G h a0 res 0 0 H locs (F0 m 112 ls []) := by
            intro H locs ls hw hl
            refine lv_aload_n hx hb dX4_weekGoes_112 rfl (lv_at hl 0 rfl) ?_
            refine lv_iload_n hx hb dX4_weekGoes_113 rfl (lv_at hl 2 rfl) ?_
            obtain ⟨v24, ev24, ho18⟩ := ob_s ho18
            refine ep_calli0 (va_runV (As := [.int x2]) (rest := []) ⟨hx, hb, hml, hown, hts⟩ (metX4_isSold l G o21 a0 x2 ev24) (cwV 1 hts (lw_V q1360 q1362 qs56 q89 q1363) rfl rfl rfl hdX4_isSold ⟨Nat.le_of_ble_eq_true rfl, Nat.le_of_ble_eq_true rfl⟩) (ep_preV hK hZ hw rfl (ckX4_isSold ev24)) rfl rfl hl.1 rfl (lv_room (Nat.le_of_ble_eq_true rfl)) dX4_weekGoes_114 ⟨Nat.le_of_ble_eq_true rfl, Nat.le_of_ble_eq_true rfl⟩) hw (fun H locs hw => ?_)
            obtain ⟨o25, ho25, ho18⟩ := ob_s ho18
            have hJ25 : ∀ (H : Heap) (locs : List Loc) (ls : Array Slot), ep_W G ep_cl o25 s H locs → lv_has ls 4 [(0, .ref a0), (1, .int o1), (2, .int x2)] → wX4_weekGoes p l e s m below meth c G h a0 res 0 0 H locs (F0 m 161 ls []) := by
              intro H locs ls hw hl
              refine lv_iinc (v := (x2 + iI 1)) (lv' := [(2, .int (x2 + iI 1)), (0, .ref a0), (1, .int o1)]) hx hb dX4_weekGoes_161 hl (k := 2) rfl rfl (by decide) rfl (fun ls hl => ?_)
              refine lv_goto (tgt := 90) hx hb dX4_weekGoes_164 (by decide) ?_
              exact ih18 _ _ ho18 _ _ _ hw (lv_sub hl [1, 2, 0] rfl)
            refine lv_if_ne (tgt := 161) hx hb dX4_weekGoes_117 (by decide) (fun c26 => ?_) (fun c26 => ?_)
            · have ho25 := oi_f ho25 c26
              obtain rfl := Option.some.inj ho25
              exact hJ25 _ _ _ hw (lv_sub hl [0, 1, 2] rfl)
            · have ho25 := oi_t ho25 c26
              refine lv_aload_n hx hb dX4_weekGoes_120 rfl (lv_at hl 0 rfl) ?_
              refine lv_iload_n hx hb dX4_weekGoes_121 rfl (lv_at hl 2 rfl) ?_
              obtain ⟨v27, ev27, ho25⟩ := ob_s ho25
              refine ep_calli0 (va_runV (As := [.int x2]) (rest := []) ⟨hx, hb, hml, hown, hts⟩ (metX4_isSilent l G o21 a0 x2 ev27) (cwV 1 hts (lw_V q1335 q1337 qs52 q89 q1338) rfl rfl rfl hdX4_isSilent ⟨Nat.le_of_ble_eq_true rfl, Nat.le_of_ble_eq_true rfl⟩) (ep_preV hK hZ hw rfl (ckX4_isSilent ev27)) rfl rfl hl.1 rfl (lv_room (Nat.le_of_ble_eq_true rfl)) dX4_weekGoes_122 ⟨Nat.le_of_ble_eq_true rfl, Nat.le_of_ble_eq_true rfl⟩) hw (fun H locs hw => ?_)
              refine lv_if_ne (tgt := 161) hx hb dX4_weekGoes_125 (by decide) (fun c28 => ?_) (fun c28 => ?_)
              · have ho25 := oi_f ho25 c28
                obtain rfl := Option.some.inj ho25
                exact hJ25 _ _ _ hw (lv_sub hl [0, 1, 2] rfl)
              · have ho25 := oi_t ho25 c28
                refine lv_aload_n hx hb dX4_weekGoes_128 rfl (lv_at hl 0 rfl) ?_
                refine lv_iload_n hx hb dX4_weekGoes_129 rfl (lv_at hl 2 rfl) ?_
                refine lv_iconst (v := iI 1) hx hb dX4_weekGoes_130 rfl ?_
                obtain ⟨v29, ev29, ho25⟩ := ob_s ho25
                refine ep_calli0 (va_runV (As := [.int x2, .int (iI 1)]) (rest := []) ⟨hx, hb, hml, hown, hts⟩ (metX4_of l G o21 a0 x2 (iI 1) ev29) (cwV 2 hts (lw_V q1327 q1329 qs50 q89 q1330) rfl rfl rfl hdX4_of ⟨Nat.le_of_ble_eq_true rfl, Nat.le_of_ble_eq_true rfl⟩) (ep_preV hK hZ hw rfl (ckX4_of ev29)) rfl rfl hl.1 rfl (lv_room (Nat.le_of_ble_eq_true rfl)) dX4_weekGoes_131 ⟨Nat.le_of_ble_eq_true rfl, Nat.le_of_ble_eq_true rfl⟩) hw (fun H locs hw => ?_)
                refine lv_aload_n hx hb dX4_weekGoes_134 rfl (lv_at hl 0 rfl) ?_
                refine lv_iload_n hx hb dX4_weekGoes_135 rfl (lv_at hl 2 rfl) ?_
                obtain ⟨v30, ev30, ho25⟩ := ob_s ho25
                refine ep_calli0 (va_runV (As := [.int x2]) (rest := [.int v29]) ⟨hx, hb, hml, hown, hts⟩ (metX4_growthOf l G o21 a0 x2 ev30) (cwV 1 hts (lw_V q1451 q1453 qs67 q89 q1454) rfl rfl rfl hdX4_growthOf ⟨Nat.le_of_ble_eq_true rfl, Nat.le_of_ble_eq_true rfl⟩) (ep_preV hK hZ hw rfl (ckX4_growthOf ev30)) rfl rfl hl.1 rfl (lv_room (Nat.le_of_ble_eq_true rfl)) dX4_weekGoes_136 ⟨Nat.le_of_ble_eq_true rfl, Nat.le_of_ble_eq_true rfl⟩) hw (fun H locs hw => ?_)
                refine lv_iadd hx hb dX4_weekGoes_139 ?_
                refine lv_iconst (v := iI 1) hx hb dX4_weekGoes_140 rfl ?_
                refine lv_isub hx hb dX4_weekGoes_141 ?_
                refine lv_istore_n (lv' := [(3, .int ((v29 + v30) - (iI 1))), (0, .ref a0), (1, .int o1), (2, .int x2)]) hx hb dX4_weekGoes_142 rfl hl (by decide) rfl (fun ls hl => ?_)
                refine lv_aload_n hx hb dX4_weekGoes_143 rfl (lv_at hl 1 rfl) ?_
                refine lv_iload_n hx hb dX4_weekGoes_144 rfl (lv_at hl 3 rfl) ?_
                refine lv_iconst (v := iI 1) hx hb dX4_weekGoes_145 rfl ?_
                refine lv_iload_n hx hb dX4_weekGoes_146 rfl (lv_at hl 0 rfl) ?_
                refine lv_bipush (v := iI 99) hx hb dX4_weekGoes_147 (by decide) ?_
                have hJ31 : wX4_weekGoes p l e s m below meth c G h a0 res 0 0 H locs (F0 m 158 ls [.int (if ((v29 + v30) - (iI 1)) ≤ (iI 99) then ((v29 + v30) - (iI 1)) else iI 99), .int (iI 1), .int x2, .ref a0]) := by
                  obtain ⟨o33, eo33, ho25⟩ := ob_s ho25
                  refine ep_callv0 (va_runV (As := [.int x2, .int (iI 1), .int (if ((v29 + v30) - (iI 1)) ≤ (iI 99) then ((v29 + v30) - (iI 1)) else iI 99)]) (rest := []) ⟨hx, hb, hml, hown, hts⟩ (metX4_becomesOf l G o21 a0 x2 (iI 1) (if ((v29 + v30) - (iI 1)) ≤ (iI 99) then ((v29 + v30) - (iI 1)) else iI 99) eo33) (cwV 3 hts (lw_V q1418 q1420 qs62 q89 q1421) rfl rfl rfl hdX4_becomesOf ⟨Nat.le_of_ble_eq_true rfl, Nat.le_of_ble_eq_true rfl⟩) (ep_preV hK hZ hw rfl (ckX4_becomesOf eo33)) rfl rfl hl.1 rfl (lv_room (Nat.le_of_ble_eq_true rfl)) dX4_weekGoes_158 ⟨Nat.le_of_ble_eq_true rfl, Nat.le_of_ble_eq_true rfl⟩) hw (fun H locs hw => ?_)
                  obtain rfl := Option.some.inj ho25
                  exact hJ25 _ _ _ hw (lv_sub hl [1, 2, 3] rfl)
                refine lv_icmp_le (tgt := 157) hx hb dX4_weekGoes_149 (by decide) (fun c32 => ?_) (fun c32 => ?_)
                · refine lv_iload_n hx hb dX4_weekGoes_157 rfl (lv_at hl 0 rfl) ?_
                  rw [if_pos c32] at hJ31
                  exact hJ31
                · refine lv_bipush (v := iI 99) hx hb dX4_weekGoes_152 (by decide) ?_
                  refine lv_goto (tgt := 158) hx hb dX4_weekGoes_154 (by decide) ?_
                  rw [if_neg c32] at hJ31
                  exact hJ31
          refine lv_icmp_ne (tgt := 112) hx hb dX4_weekGoes_104 (by decide) (fun c22 => ?_) (fun c22 => ?_)
          · have ho21 := oi_f ho21 c22
            obtain rfl := Option.some.inj ho21
            exact hJ21 _ _ _ hw (lv_sub hl [0, 1, 2] rfl)
          · have ho21 := oi_t ho21 c22
            refine lv_aload_n hx hb dX4_weekGoes_107 rfl (lv_at hl 0 rfl) ?_
            refine lv_iload_n hx hb dX4_weekGoes_108 rfl (lv_at hl 2 rfl) ?_
            obtain ⟨o23, eo23, ho21⟩ := ob_s ho21
            refine ep_callv0 (va_runV (As := [.int x2]) (rest := []) ⟨hx, hb, hml, hown, hts⟩ (metX4_losesLetter l G h a0 x2 eo23) (cwV 1 hts (lw_V q1414 q1416 qs61 q89 q1417) rfl rfl rfl hdX4_losesLetter ⟨Nat.le_of_ble_eq_true rfl, Nat.le_of_ble_eq_true rfl⟩) (ep_preV hK hZ hw rfl (ckX4_losesLetter eo23)) rfl rfl hl.1 rfl (lv_room (Nat.le_of_ble_eq_true rfl)) dX4_weekGoes_109 ⟨Nat.le_of_ble_eq_true rfl, Nat.le_of_ble_eq_true rfl⟩) hw (fun H locs hw => ?_)
            obtain rfl := Option.some.inj ho21
            exact hJ21 _ _ _ hw (lv_sub hl [0, 1, 2] rfl)
    exact hL18 FUEL _ _ ho18 _ _ _ hw (lv_sub hl [1, 2, 0] rfl)
  have hL1 : ∀ (fu : Nat) (x1 : Int32) (x2 : Int32), fX4_weekGoes_L4 h a0 fu x1 x2 = some o1 → ∀ (H : Heap) (locs : List Loc) (ls : Array Slot), ep_W G ep_cl h s H locs → lv_has ls 4 [(0, .ref a0), (1, .int x1), (2, .int x2)] → wX4_weekGoes p l e s m below meth c G h a0 res 0 0 H locs (F0 m 4 ls []) := by
    intro fu
    induction fu with
    | zero => intro x1 x2 ho1; cases ho1
    | succ fu ih1 =>
      intro x1 x2 ho1 H locs ls hw hl
      rw [fX4_weekGoes_L4] at ho1
      refine lv_iload_n hx hb dX4_weekGoes_4 rfl (lv_at hl 2 rfl) ?_
      refine lv_aload_n hx hb dX4_weekGoes_5 rfl (lv_at hl 0 rfl) ?_
      obtain ⟨v2, ev2, ho1⟩ := ob_s ho1
      refine ep_get (C := RX4) (T := TX4) (N := 32) (ci := 4) hx hb hts in_X4 hown hK hw rfl 4 (by decide) q1143 (gI_f ev2) dX4_weekGoes_6 ?_
      refine lv_icmp_ge (tgt := 88) hx hb dX4_weekGoes_9 (by decide) (fun c3 => ?_) (fun c3 => ?_)
      · have ho1 := oi_t ho1 c3
        obtain rfl := Option.some.inj ho1
        exact hJ1 _ _ _ hw (lv_sub hl [0, 1] rfl)
      · have ho1 := oi_f ho1 c3
        refine lv_iconst (v := iI 0) hx hb dX4_weekGoes_12 rfl ?_
        refine lv_istore_n (lv' := [(3, .int (iI 0)), (0, .ref a0), (1, .int x1), (2, .int x2)]) hx hb dX4_weekGoes_13 rfl hl (by decide) rfl (fun ls hl => ?_)
        obtain ⟨o4, ho4, ho1⟩ := ob_s ho1
        have hJ4 : ∀ (H : Heap) (locs : List Loc) (ls : Array Slot), ep_W G ep_cl h s H locs → lv_has ls 4 [(0, .ref a0), (1, .int o4), (2, .int x2)] → wX4_weekGoes p l e s m below meth c G h a0 res 0 0 H locs (F0 m 82 ls []) := by
          intro H locs ls hw hl
          refine lv_iinc (v := (x2 + iI 1)) (lv' := [(2, .int (x2 + iI 1)), (0, .ref a0), (1, .int o4)]) hx hb dX4_weekGoes_82 hl (k := 2) rfl rfl (by decide) rfl (fun ls hl => ?_)
          refine lv_goto (tgt := 4) hx hb dX4_weekGoes_85 (by decide) ?_
          exact ih1 _ _ ho1 _ _ _ hw (lv_sub hl [1, 2, 0] rfl)
        have hL4 : ∀ (fu : Nat) (x1 : Int32) (x3 : Int32), fX4_weekGoes_L14 h a0 x2 fu x1 x3 = some o4 → ∀ (H : Heap) (locs : List Loc) (ls : Array Slot), ep_W G ep_cl h s H locs → lv_has ls 4 [(0, .ref a0), (1, .int x1), (2, .int x2), (3, .int x3)] → wX4_weekGoes p l e s m below meth c G h a0 res 0 0 H locs (F0 m 14 ls []) := by
          intro fu
          induction fu with
          | zero => intro x1 x3 ho4; cases ho4
          | succ fu ih4 =>
            intro x1 x3 ho4 H locs ls hw hl
            rw [fX4_weekGoes_L14] at ho4
            refine lv_iload_n hx hb dX4_weekGoes_14 rfl (lv_at hl 3 rfl) ?_
            refine lv_aload_n hx hb dX4_weekGoes_15 rfl (lv_at hl 0 rfl) ?_
            obtain ⟨v5, ev5, ho4⟩ := ob_s ho4
            refine ep_get (C := RX4) (T := TX4) (N := 32) (ci := 4) hx hb hts in_X4 hown hK hw rfl 4 (by decide) q1143 (gI_f ev5) dX4_weekGoes_16 ?_
            refine lv_icmp_ge (tgt := 82) hx hb dX4_weekGoes_19 (by decide) (fun c6 => ?_) (fun c6 => ?_)
            · have ho4 := oi_t ho4 c6
              obtain rfl := Option.some.inj ho4
              exact hJ4 _ _ _ hw (lv_sub hl [0, 1, 2] rfl)
            · have ho4 := oi_f ho4 c6
              refine lv_iload_n hx hb dX4_weekGoes_22 rfl (lv_at hl 1 rfl) ?_
              refine lv_aload_n hx hb dX4_weekGoes_23 rfl (lv_at hl 0 rfl) ?_
              refine lv_iload_n hx hb dX4_weekGoes_24 rfl (lv_at hl 2 rfl) ?_
              obtain ⟨v7, ev7, ho4⟩ := ob_s ho4
              refine ep_calli0 (va_runV (As := [.int x2]) (rest := [.int x1]) ⟨hx, hb, hml, hown, hts⟩ (metX4_isSold l G h a0 x2 ev7) (cwV 1 hts (lw_V q1360 q1362 qs56 q89 q1363) rfl rfl rfl hdX4_isSold ⟨Nat.le_of_ble_eq_true rfl, Nat.le_of_ble_eq_true rfl⟩) (ep_preV hK hZ hw rfl (ckX4_isSold ev7)) rfl rfl hl.1 rfl (lv_room (Nat.le_of_ble_eq_true rfl)) dX4_weekGoes_25 ⟨Nat.le_of_ble_eq_true rfl, Nat.le_of_ble_eq_true rfl⟩) hw (fun H locs hw => ?_)
              obtain ⟨o8, ho8, ho4⟩ := ob_s ho4
              have hJ8 : ∀ (H : Heap) (locs : List Loc) (ls : Array Slot), ep_W G ep_cl h s H locs → lv_has ls 4 [(0, .ref a0), (2, .int x2), (3, .int x3)] → wX4_weekGoes p l e s m below meth c G h a0 res 0 0 H locs (F0 m 69 ls [.int o8, .int x1]) := by
                intro H locs ls hw hl
                obtain ⟨v17, ev17, ho4⟩ := ob_s ho4
                refine ep_calli0 (va_runS (As := [.int o8]) (rest := [.int x1]) ⟨hx, hb, hml, hown, hts⟩ (metX4_flag l G h o8 ev17) (va_cwS 1 hts (lw_S q1308 q1309 q89 q1310) rfl rfl rfl hsX4_flag ⟨Nat.le_of_ble_eq_true rfl, Nat.le_of_ble_eq_true rfl⟩) (ep_preS hK hZ hw) rfl rfl hl.1 rfl (lv_room (Nat.le_of_ble_eq_true rfl)) dX4_weekGoes_69 ⟨Nat.le_of_ble_eq_true rfl, Nat.le_of_ble_eq_true rfl⟩) hw (fun H locs hw => ?_)
                refine lv_iload_n hx hb dX4_weekGoes_72 rfl (lv_at hl 1 rfl) ?_
                refine lv_ishl hx hb dX4_weekGoes_73 ?_
                refine lv_ior hx hb dX4_weekGoes_74 ?_
                refine lv_istore_n (lv' := [(1, .int (x1 ||| (v17 <<< (x2 &&& 31)))), (0, .ref a0), (2, .int x2), (3, .int x3)]) hx hb dX4_weekGoes_75 rfl hl (by decide) rfl (fun ls hl => ?_)
                refine lv_iinc (v := (x3 + iI 1)) (lv' := [(3, .int (x3 + iI 1)), (1, .int (x1 ||| (v17 <<< (x2 &&& 31)))), (0, .ref a0), (2, .int x2)]) hx hb dX4_weekGoes_76 hl (k := 3) rfl rfl (by decide) rfl (fun ls hl => ?_)
                refine lv_goto (tgt := 14) hx hb dX4_weekGoes_79 (by decide) ?_
                exact ih4 _ _ ho4 _ _ _ hw (lv_sub hl [2, 1, 3, 0] rfl)
              refine lv_if_ne (tgt := 68) hx hb dX4_weekGoes_28 (by decide) (fun c9 => ?_) (fun c9 => ?_)
              · have ho8 := oi_f ho8 c9
                refine lv_iconst (v := iI 0) hx hb dX4_weekGoes_68 rfl ?_
                obtain rfl := Option.some.inj ho8
                exact hJ8 _ _ _ hw (lv_sub hl [0, 2, 3] rfl)
              · have ho8 := oi_t ho8 c9
                refine lv_aload_n hx hb dX4_weekGoes_31 rfl (lv_at hl 0 rfl) ?_
                refine lv_iload_n hx hb dX4_weekGoes_32 rfl (lv_at hl 2 rfl) ?_
                refine lv_iconst (v := iI 0) hx hb dX4_weekGoes_33 rfl ?_
                obtain ⟨v10, ev10, ho8⟩ := ob_s ho8
                refine ep_calli0 (va_runV (As := [.int x2, .int (iI 0)]) (rest := [.int x1]) ⟨hx, hb, hml, hown, hts⟩ (metX4_of l G h a0 x2 (iI 0) ev10) (cwV 2 hts (lw_V q1327 q1329 qs50 q89 q1330) rfl rfl rfl hdX4_of ⟨Nat.le_of_ble_eq_true rfl, Nat.le_of_ble_eq_true rfl⟩) (ep_preV hK hZ hw rfl (ckX4_of ev10)) rfl rfl hl.1 rfl (lv_room (Nat.le_of_ble_eq_true rfl)) dX4_weekGoes_34 ⟨Nat.le_of_ble_eq_true rfl, Nat.le_of_ble_eq_true rfl⟩) hw (fun H locs hw => ?_)
                refine lv_iconst (v := iI 3) hx hb dX4_weekGoes_37 rfl ?_
                refine lv_icmp_eq (tgt := 68) hx hb dX4_weekGoes_38 (by decide) (fun c11 => ?_) (fun c11 => ?_)
                · have ho8 := oi_t ho8 c11
                  refine lv_iconst (v := iI 0) hx hb dX4_weekGoes_68 rfl ?_
                  obtain rfl := Option.some.inj ho8
                  exact hJ8 _ _ _ hw (lv_sub hl [0, 2, 3] rfl)
                · have ho8 := oi_f ho8 c11
                  refine lv_aload_n hx hb dX4_weekGoes_41 rfl (lv_at hl 0 rfl) ?_
                  refine lv_iload_n hx hb dX4_weekGoes_42 rfl (lv_at hl 3 rfl) ?_
                  refine lv_iconst (v := iI 2) hx hb dX4_weekGoes_43 rfl ?_
                  obtain ⟨v12, ev12, ho8⟩ := ob_s ho8
                  refine ep_calli0 (va_runV (As := [.int x3, .int (iI 2)]) (rest := [.int x1]) ⟨hx, hb, hml, hown, hts⟩ (metX4_of l G h a0 x3 (iI 2) ev12) (cwV 2 hts (lw_V q1327 q1329 qs50 q89 q1330) rfl rfl rfl hdX4_of ⟨Nat.le_of_ble_eq_true rfl, Nat.le_of_ble_eq_true rfl⟩) (ep_preV hK hZ hw rfl (ckX4_of ev12)) rfl rfl hl.1 rfl (lv_room (Nat.le_of_ble_eq_true rfl)) dX4_weekGoes_44 ⟨Nat.le_of_ble_eq_true rfl, Nat.le_of_ble_eq_true rfl⟩) hw (fun H locs hw => ?_)
                  refine lv_aload_n hx hb dX4_weekGoes_47 rfl (lv_at hl 0 rfl) ?_
                  refine lv_iload_n hx hb dX4_weekGoes_48 rfl (lv_at hl 2 rfl) ?_
                  refine lv_iconst (v := iI 2) hx hb dX4_weekGoes_49 rfl ?_
                  obtain ⟨v13, ev13, ho8⟩ := ob_s ho8
                  refine ep_calli0 (va_runV (As := [.int x2, .int (iI 2)]) (rest := [.int v12, .int x1]) ⟨hx, hb, hml, hown, hts⟩ (metX4_of l G h a0 x2 (iI 2) ev13) (cwV 2 hts (lw_V q1327 q1329 qs50 q89 q1330) rfl rfl rfl hdX4_of ⟨Nat.le_of_ble_eq_true rfl, Nat.le_of_ble_eq_true rfl⟩) (ep_preV hK hZ hw rfl (ckX4_of ev13)) rfl rfl hl.1 rfl (lv_room (Nat.le_of_ble_eq_true rfl)) dX4_weekGoes_50 ⟨Nat.le_of_ble_eq_true rfl, Nat.le_of_ble_eq_true rfl⟩) hw (fun H locs hw => ?_)
                  refine lv_icmp_ne (tgt := 68) hx hb dX4_weekGoes_53 (by decide) (fun c14 => ?_) (fun c14 => ?_)
                  · have ho8 := oi_f ho8 c14
                    refine lv_iconst (v := iI 0) hx hb dX4_weekGoes_68 rfl ?_
                    obtain rfl := Option.some.inj ho8
                    exact hJ8 _ _ _ hw (lv_sub hl [0, 2, 3] rfl)
                  · have ho8 := oi_t ho8 c14
                    refine lv_aload_n hx hb dX4_weekGoes_56 rfl (lv_at hl 0 rfl) ?_
                    refine lv_iload_n hx hb dX4_weekGoes_57 rfl (lv_at hl 3 rfl) ?_
                    obtain ⟨v15, ev15, ho8⟩ := ob_s ho8
                    refine ep_calli0 (va_runV (As := [.int x3]) (rest := [.int x1]) ⟨hx, hb, hml, hown, hts⟩ (metX4_isWildOne l G h a0 x3 ev15) (cwV 1 hts (lw_V q1447 q1449 qs66 q89 q1450) rfl rfl rfl hdX4_isWildOne ⟨Nat.le_of_ble_eq_true rfl, Nat.le_of_ble_eq_true rfl⟩) (ep_preV hK hZ hw rfl (ckX4_isWildOne ev15)) rfl rfl hl.1 rfl (lv_room (Nat.le_of_ble_eq_true rfl)) dX4_weekGoes_58 ⟨Nat.le_of_ble_eq_true rfl, Nat.le_of_ble_eq_true rfl⟩) hw (fun H locs hw => ?_)
                    refine lv_if_eq (tgt := 68) hx hb dX4_weekGoes_61 (by decide) (fun c16 => ?_) (fun c16 => ?_)
                    · have ho8 := oi_t ho8 c16
                      refine lv_iconst (v := iI 0) hx hb dX4_weekGoes_68 rfl ?_
                      obtain rfl := Option.some.inj ho8
                      exact hJ8 _ _ _ hw (lv_sub hl [0, 2, 3] rfl)
                    · have ho8 := oi_f ho8 c16
                      refine lv_iconst (v := iI 1) hx hb dX4_weekGoes_64 rfl ?_
                      refine lv_goto (tgt := 69) hx hb dX4_weekGoes_65 (by decide) ?_
                      obtain rfl := Option.some.inj ho8
                      exact hJ8 _ _ _ hw (lv_sub hl [0, 2, 3] rfl)
        exact hL4 FUEL _ _ ho4 _ _ _ hw (lv_sub hl [1, 2, 3, 0] rfl)
  exact hL1 FUEL _ _ ho1 _ _ _ hw (lv_sub hl [2, 1, 0] rfl)
theorem hdX4_weeksGo : yX4_weeksGo.cls = RX4 ∧ yX4_weeksGo.cls ≠ "java/lang/invoke/MethodHandle" ∧ yX4_weeksGo.cls ≠ "java/lang/invoke/VarHandle" ∧ (parseMethodDescriptor yX4_weeksGo.desc).map (fun d => d.parameters.length) = some 1 := by decide +kernel
theorem ckX4_weeksGo {h : Hp} {a0 : Nat} {x1 : Int32} {res : Hp} (hf : fX4_weeksGo h a0 x1 = some res) : ep_cls h a0 = some 4 := by
  unfold fX4_weeksGo at hf
  exact (oi_c hf).1
abbrev wX4_weeksGo (p : Program) (l : Launch) (e : Env) (s : State) (m : MethodId) (below : List Frame) (meth : Method) (c : Code) (G : EG) (h : Hp) (a0 : Nat) (x1 : Int32) (res : Hp) (k9 n9 : Nat) (H : Heap) (locs : List Loc) (g : JFrame) : Prop := W p l e (headSpec (ws_ yX4_weeksGo cX4_weeksGo 3 none) ({ frames := 4, cells := 0, slots := 0, locals := 87 } : Room)).room s m ([.ref a0, .int x1] : List Value).toArray below meth c H locs k9 n9 (MQ below (ep_Qv G ep_cl res) ([.ref a0, .int x1] : List Value).toArray s 0 0 (ep_A G)) g
set_option maxHeartbeats 4000000 in
theorem metX4_weeksGo (l : Launch) (G : EG) (h : Hp) (a0 : Nat) (x1 : Int32) {res : Hp} (hf : fX4_weeksGo h a0 x1 = some res) : Met l yX4_weeksGo (ws_ yX4_weeksGo cX4_weeksGo 3 none) ({ frames := 4, cells := 0, slots := 0, locals := 87 } : Room) (ep_Pc G ep_cl h [.ref a0, .int x1]) (ep_Qv G ep_cl res) 0 0 (ep_A G) := by
  refine Met.ofW (cc := cX4_weeksGo) (maxL := 3) (ret := none) (by decide) rfl ?_
  intro p e s m args below meth c s₁ B hml hv
  obtain ⟨rfl, hR, hK, hZ⟩ := hv
  have hx := B.exec
  have hb := B.bytes
  have hr := B.returns
  have hlocks := B.notSynchronized
  have hts := atoms_spec (ws := (ws_ yX4_weeksGo cX4_weeksGo 3 none)) B.pre
  have hts : ∀ w ∈ lw_all, w.before _ s = true := fun w h => hts w (List.mem_cons_of_mem _ h)
  have hown : s.vm.findClass RX4 = some m.cls := findClass_of_methodNamed B.named
  have hw : ep_W G ep_cl h s s.heap [] := ⟨hR, va_S.rf⟩
  have hl := lv_entry ([.ref a0, .int x1]) (n := 3) (Nat.le_of_ble_eq_true rfl)
  rw [lg_entry_eq]
  generalize (lg_sl ([.ref a0, .int x1]) ++ List.replicate (3 - (lg_sl ([.ref a0, .int x1])).length) Slot.unset).toArray = ls at hl ⊢
  have hl : lv_has ls 3 [(0, .ref a0), (1, .int x1)] := hl
  unfold fX4_weeksGo at hf
  have hf := (oi_c hf).2
  show wX4_weeksGo p l e s m below meth c G h a0 x1 res 0 0 s.heap ([]) (F0 m 0 ls [])
  refine lv_iconst (v := iI 0) hx hb dX4_weeksGo_0 rfl ?_
  refine lv_istore_n (lv' := [(2, .int (iI 0)), (0, .ref a0), (1, .int x1)]) hx hb dX4_weeksGo_1 rfl hl (by decide) rfl (fun ls hl => ?_)
  obtain ⟨o1, ho1, hf⟩ := ob_s hf
  have hJ1 : ∀ (H : Heap) (locs : List Loc) (ls : Array Slot), ep_W G ep_cl o1 s H locs → lv_has ls 3 [] → wX4_weeksGo p l e s m below meth c G h a0 x1 res 0 0 H locs (F0 m 17 ls []) := by
    intro H locs ls hw hl
    exact ep_retvW hx hb hr hlocks hw hf dX4_weeksGo_17
  have hL1 : ∀ (fu : Nat) (h : Hp) (x2 : Int32), fX4_weeksGo_L2 a0 x1 fu h x2 = some o1 → ∀ (H : Heap) (locs : List Loc) (ls : Array Slot), ep_W G ep_cl h s H locs → lv_has ls 3 [(0, .ref a0), (1, .int x1), (2, .int x2)] → wX4_weeksGo p l e s m below meth c G h a0 x1 res 0 0 H locs (F0 m 2 ls []) := by
    intro fu
    induction fu with
    | zero => intro h x2 ho1; cases ho1
    | succ fu ih1 =>
      intro h x2 ho1 H locs ls hw hl
      rw [fX4_weeksGo_L2] at ho1
      refine lv_iload_n hx hb dX4_weeksGo_2 rfl (lv_at hl 2 rfl) ?_
      refine lv_iload_n hx hb dX4_weeksGo_3 rfl (lv_at hl 1 rfl) ?_
      refine lv_icmp_ge (tgt := 17) hx hb dX4_weeksGo_4 (by decide) (fun c2 => ?_) (fun c2 => ?_)
      · have ho1 := oi_t ho1 c2
        obtain rfl := Option.some.inj ho1
        exact hJ1 _ _ _ hw (lv_sub hl [] rfl)
      · have ho1 := oi_f ho1 c2
        refine lv_aload_n hx hb dX4_weeksGo_7 rfl (lv_at hl 0 rfl) ?_
        obtain ⟨o3, eo3, ho1⟩ := ob_s ho1
        refine ep_callv0 (va_runV (As := []) (rest := []) ⟨hx, hb, hml, hown, hts⟩ (metX4_weekGoes l G h a0 eo3) (cwV 0 hts (lw_V q1443 q1445 qs65 q89 q1446) rfl rfl rfl hdX4_weekGoes ⟨Nat.le_of_ble_eq_true rfl, Nat.le_of_ble_eq_true rfl⟩) (ep_preV hK hZ hw rfl (ckX4_weekGoes eo3)) rfl rfl hl.1 rfl (lv_room (Nat.le_of_ble_eq_true rfl)) dX4_weeksGo_8 ⟨Nat.le_of_ble_eq_true rfl, Nat.le_of_ble_eq_true rfl⟩) hw (fun H locs hw => ?_)
        refine lv_iinc (v := (x2 + iI 1)) (lv' := [(2, .int (x2 + iI 1)), (0, .ref a0), (1, .int x1)]) hx hb dX4_weeksGo_11 hl (k := 2) rfl rfl (by decide) rfl (fun ls hl => ?_)
        refine lv_goto (tgt := 2) hx hb dX4_weeksGo_14 (by decide) ?_
        exact ih1 _ _ ho1 _ _ _ hw (lv_sub hl [1, 2, 0] rfl)
  exact hL1 FUEL _ _ ho1 _ _ _ hw (lv_sub hl [1, 2, 0] rfl)
theorem hdX4_go : yX4_go.cls = RX4 ∧ yX4_go.cls ≠ "java/lang/invoke/MethodHandle" ∧ yX4_go.cls ≠ "java/lang/invoke/VarHandle" ∧ (parseMethodDescriptor yX4_go.desc).map (fun d => d.parameters.length) = some 1 := by decide +kernel
theorem ckX4_go {h : Hp} {a0 : Nat} {x1 : Int32} {res : Int32 × Hp} (hf : fX4_go h a0 x1 = some res) : ep_cls h a0 = some 4 := by
  unfold fX4_go at hf
  exact (oi_c hf).1
abbrev wX4_go (p : Program) (l : Launch) (e : Env) (s : State) (m : MethodId) (below : List Frame) (meth : Method) (c : Code) (G : EG) (h : Hp) (a0 : Nat) (x1 : Int32) (res : Int32 × Hp) (k9 n9 : Nat) (H : Heap) (locs : List Loc) (g : JFrame) : Prop := W p l e (headSpec (ws_ yX4_go cX4_go 4 (some .int)) ({ frames := 5, cells := 0, slots := 0, locals := 109 } : Room)).room s m ([.ref a0, .int x1] : List Value).toArray below meth c H locs k9 n9 (MQ below (ep_Qi G ep_cl res.2 res.1) ([.ref a0, .int x1] : List Value).toArray s 0 0 (ep_A G)) g
set_option maxHeartbeats 4000000 in
theorem metX4_go (l : Launch) (G : EG) (h : Hp) (a0 : Nat) (x1 : Int32) {res : Int32 × Hp} (hf : fX4_go h a0 x1 = some res) : Met l yX4_go (ws_ yX4_go cX4_go 4 (some .int)) ({ frames := 5, cells := 0, slots := 0, locals := 109 } : Room) (ep_Pc G ep_cl h [.ref a0, .int x1]) (ep_Qi G ep_cl res.2 res.1) 0 0 (ep_A G) := by
  refine Met.ofW (cc := cX4_go) (maxL := 4) (ret := (some .int)) (by decide) rfl ?_
  intro p e s m args below meth c s₁ B hml hv
  obtain ⟨rfl, hR, hK, hZ⟩ := hv
  have hx := B.exec
  have hb := B.bytes
  have hr := B.returns
  have hlocks := B.notSynchronized
  have hts := atoms_spec (ws := (ws_ yX4_go cX4_go 4 (some .int))) B.pre
  have hts : ∀ w ∈ lw_all, w.before _ s = true := fun w h => hts w (List.mem_cons_of_mem _ h)
  have hown : s.vm.findClass RX4 = some m.cls := findClass_of_methodNamed B.named
  have hw : ep_W G ep_cl h s s.heap [] := ⟨hR, va_S.rf⟩
  have hl := lv_entry ([.ref a0, .int x1]) (n := 4) (Nat.le_of_ble_eq_true rfl)
  rw [lg_entry_eq]
  generalize (lg_sl ([.ref a0, .int x1]) ++ List.replicate (4 - (lg_sl ([.ref a0, .int x1])).length) Slot.unset).toArray = ls at hl ⊢
  have hl : lv_has ls 4 [(0, .ref a0), (1, .int x1)] := hl
  unfold fX4_go at hf
  have hf := (oi_c hf).2
  show wX4_go p l e s m below meth c G h a0 x1 res 0 0 s.heap ([]) (F0 m 0 ls [])
  refine lv_iload_n hx hb dX4_go_0 rfl (lv_at hl 1 rfl) ?_
  refine lv_i2l (v := x1.toInt64) hx hb dX4_go_1 rfl ?_
  refine lv_lconst (v := lI 0) hx hb dX4_go_2 (by decide) ?_
  refine lv_ldc2 (v := (30 : Int64)) hx hb hown (hts _ q1438) dX4_go_3 ?_
  obtain ⟨v1, ev1, hf⟩ := ob_s hf
  refine ep_calli0 (va_runS (As := [.long x1.toInt64, .long (lI 0), .long (30 : Int64)]) (rest := []) ⟨hx, hb, hml, hown, hts⟩ (metX4_in l G h x1.toInt64 (lI 0) (30 : Int64) ev1) (va_cwS 3 hts (lw_S q1242 q1243 q89 q1244) rfl rfl rfl hsX4_in ⟨Nat.le_of_ble_eq_true rfl, Nat.le_of_ble_eq_true rfl⟩) (ep_preS hK hZ hw) rfl rfl hl.1 rfl (lv_room (Nat.le_of_ble_eq_true rfl)) dX4_go_6 ⟨Nat.le_of_ble_eq_true rfl, Nat.le_of_ble_eq_true rfl⟩) hw (fun H locs hw => ?_)
  refine lv_if_ne (tgt := 14) hx hb dX4_go_9 (by decide) (fun c2 => ?_) (fun c2 => ?_)
  · have hf := oi_f hf c2
    refine lv_aload_n hx hb dX4_go_14 rfl (lv_at hl 0 rfl) ?_
    obtain ⟨r3, er3, hf⟩ := ob_s hf
    refine ep_get (C := RX4) (T := TX4) (N := 32) (ci := 4) hx hb hts in_X4 hown hK hw rfl 0 (by decide) q1139 (gR_f er3) dX4_go_15 ?_
    refine lv_bipush (v := iI 54) hx hb dX4_go_18 (by decide) ?_
    obtain ⟨v4, ev4, hf⟩ := ob_s hf
    refine ep_iald hx hb hK hw ev4 dX4_go_20 ?_
    refine lv_iload_n hx hb dX4_go_21 rfl (lv_at hl 1 rfl) ?_
    refine lv_iadd hx hb dX4_go_22 ?_
    refine lv_sipush (v := iI 999) hx hb dX4_go_23 (by decide) ?_
    refine lv_icmp_le (tgt := 32) hx hb dX4_go_26 (by decide) (fun c5 => ?_) (fun c5 => ?_)
    · have hf := oi_t hf c5
      refine lv_aload_n hx hb dX4_go_32 rfl (lv_at hl 0 rfl) ?_
      obtain ⟨o6, eo6, hf⟩ := ob_s hf
      refine ep_callv0 (va_runV (As := []) (rest := []) ⟨hx, hb, hml, hown, hts⟩ (metX4_starts l G h a0 eo6) (cwV 0 hts (lw_V q1319 q1321 qs48 q89 q1322) rfl rfl rfl hdX4_starts ⟨Nat.le_of_ble_eq_true rfl, Nat.le_of_ble_eq_true rfl⟩) (ep_preV hK hZ hw rfl (ckX4_starts eo6)) rfl rfl hl.1 rfl (lv_room (Nat.le_of_ble_eq_true rfl)) dX4_go_33 ⟨Nat.le_of_ble_eq_true rfl, Nat.le_of_ble_eq_true rfl⟩) hw (fun H locs hw => ?_)
      refine lv_aload_n hx hb dX4_go_36 rfl (lv_at hl 0 rfl) ?_
      obtain ⟨v7, ev7, hf⟩ := ob_s hf
      refine ep_calli0 (va_runV (As := []) (rest := []) ⟨hx, hb, hml, hown, hts⟩ (metX4_silentNow l G o6 a0 ev7) (cwV 0 hts (lw_V q1331 q1333 qs51 q89 q1334) rfl rfl rfl hdX4_silentNow ⟨Nat.le_of_ble_eq_true rfl, Nat.le_of_ble_eq_true rfl⟩) (ep_preV hK hZ hw rfl (ckX4_silentNow ev7)) rfl rfl hl.1 rfl (lv_room (Nat.le_of_ble_eq_true rfl)) dX4_go_37 ⟨Nat.le_of_ble_eq_true rfl, Nat.le_of_ble_eq_true rfl⟩) hw (fun H locs hw => ?_)
      refine lv_istore_n (lv' := [(2, .int v7), (0, .ref a0), (1, .int x1)]) hx hb dX4_go_40 rfl hl (by decide) rfl (fun ls hl => ?_)
      refine lv_aload_n hx hb dX4_go_41 rfl (lv_at hl 1 rfl) ?_
      refine lv_iload_n hx hb dX4_go_42 rfl (lv_at hl 2 rfl) ?_
      obtain ⟨o8, eo8, hf⟩ := ob_s hf
      refine ep_callv0 (va_runV (As := [.int x1]) (rest := []) ⟨hx, hb, hml, hown, hts⟩ (metX4_weeksGo l G o6 a0 x1 eo8) (cwV 1 hts (lw_V q1439 q1441 qs64 q89 q1442) rfl rfl rfl hdX4_weeksGo ⟨Nat.le_of_ble_eq_true rfl, Nat.le_of_ble_eq_true rfl⟩) (ep_preV hK hZ hw rfl (ckX4_weeksGo eo8)) rfl rfl hl.1 rfl (lv_room (Nat.le_of_ble_eq_true rfl)) dX4_go_43 ⟨Nat.le_of_ble_eq_true rfl, Nat.le_of_ble_eq_true rfl⟩) hw (fun H locs hw => ?_)
      refine lv_aload_n hx hb dX4_go_46 rfl (lv_at hl 1 rfl) ?_
      obtain ⟨v9, ev9, hf⟩ := ob_s hf
      refine ep_calli0 (va_runV (As := []) (rest := []) ⟨hx, hb, hml, hown, hts⟩ (metX4_silentNow l G o8 a0 ev9) (cwV 0 hts (lw_V q1331 q1333 qs51 q89 q1334) rfl rfl rfl hdX4_silentNow ⟨Nat.le_of_ble_eq_true rfl, Nat.le_of_ble_eq_true rfl⟩) (ep_preV hK hZ hw rfl (ckX4_silentNow ev9)) rfl rfl hl.1 rfl (lv_room (Nat.le_of_ble_eq_true rfl)) dX4_go_47 ⟨Nat.le_of_ble_eq_true rfl, Nat.le_of_ble_eq_true rfl⟩) hw (fun H locs hw => ?_)
      refine lv_iload_n hx hb dX4_go_50 rfl (lv_at hl 0 rfl) ?_
      refine lv_iconst (v := iI (-1)) hx hb dX4_go_51 rfl ?_
      refine lv_ixor hx hb dX4_go_52 ?_
      refine lv_iand hx hb dX4_go_53 ?_
      obtain ⟨v10, ev10, hf⟩ := ob_s hf
      refine ep_calli0 (va_runS (As := [.int (v9 &&& (v7 ^^^ (iI (-1))))]) (rest := []) ⟨hx, hb, hml, hown, hts⟩ (metX4_bitsOf l G o8 (v9 &&& (v7 ^^^ (iI (-1)))) ev10) (va_cwS 1 hts (lw_S q1388 q1389 q89 q1390) rfl rfl rfl hsX4_bitsOf ⟨Nat.le_of_ble_eq_true rfl, Nat.le_of_ble_eq_true rfl⟩) (ep_preS hK hZ hw) rfl rfl hl.1 rfl (lv_room (Nat.le_of_ble_eq_true rfl)) dX4_go_54 ⟨Nat.le_of_ble_eq_true rfl, Nat.le_of_ble_eq_true rfl⟩) hw (fun H locs hw => ?_)
      refine lv_istore_n (lv' := [(3, .int v10), (2, .int v7), (0, .ref a0), (1, .int x1)]) hx hb dX4_go_57 rfl hl (by decide) rfl (fun ls hl => ?_)
      refine lv_aload_n hx hb dX4_go_58 rfl (lv_at hl 2 rfl) ?_
      obtain ⟨o11, eo11, hf⟩ := ob_s hf
      refine ep_callv0 (va_runV (As := []) (rest := []) ⟨hx, hb, hml, hown, hts⟩ (metX4_settles l G o8 a0 eo11) (cwV 0 hts (lw_V q1422 q1424 qs63 q89 q1425) rfl rfl rfl hdX4_settles ⟨Nat.le_of_ble_eq_true rfl, Nat.le_of_ble_eq_true rfl⟩) (ep_preV hK hZ hw rfl (ckX4_settles eo11)) rfl rfl hl.1 rfl (lv_room (Nat.le_of_ble_eq_true rfl)) dX4_go_59 ⟨Nat.le_of_ble_eq_true rfl, Nat.le_of_ble_eq_true rfl⟩) hw (fun H locs hw => ?_)
      refine lv_iload_n hx hb dX4_go_62 rfl (lv_at hl 0 rfl) ?_
      exact ep_retiW hx hb hr hlocks hw hf dX4_go_63
    · have hf := oi_f hf c5
      refine lv_bipush (v := iI (-3)) hx hb dX4_go_29 (by decide) ?_
      exact ep_retiW hx hb hr hlocks hw hf dX4_go_31
  · have hf := oi_t hf c2
    refine lv_iconst (v := iI (-1)) hx hb dX4_go_12 rfl ?_
    exact ep_retiW hx hb hr hlocks hw hf dX4_go_13
theorem hdX4_ahead : yX4_ahead.cls = RX4 ∧ yX4_ahead.cls ≠ "java/lang/invoke/MethodHandle" ∧ yX4_ahead.cls ≠ "java/lang/invoke/VarHandle" ∧ (parseMethodDescriptor yX4_ahead.desc).map (fun d => d.parameters.length) = some 3 := by decide +kernel
theorem ckX4_ahead {h : Hp} {a0 : Nat} {x1 : Int32} {x2 : Int32} {x3 : Int32} {res : Int32 × Hp} (hf : fX4_ahead h a0 x1 x2 x3 = some res) : ep_cls h a0 = some 4 := by
  unfold fX4_ahead at hf
  exact (oi_c hf).1
abbrev wX4_ahead (p : Program) (l : Launch) (e : Env) (s : State) (m : MethodId) (below : List Frame) (meth : Method) (c : Code) (G : EG) (h : Hp) (a0 : Nat) (x1 : Int32) (x2 : Int32) (x3 : Int32) (res : Int32 × Hp) (k9 n9 : Nat) (H : Heap) (locs : List Loc) (g : JFrame) : Prop := W p l e (headSpec (ws_ yX4_ahead cX4_ahead 4 (some .int)) ({ frames := 5, cells := 0, slots := 0, locals := 109 } : Room)).room s m ([.ref a0, .int x1, .int x2, .int x3] : List Value).toArray below meth c H locs k9 n9 (MQ below (ep_Qi G ep_cl res.2 res.1) ([.ref a0, .int x1, .int x2, .int x3] : List Value).toArray s 0 0 (ep_A G)) g
set_option maxHeartbeats 4000000 in
theorem metX4_ahead (l : Launch) (G : EG) (h : Hp) (a0 : Nat) (x1 : Int32) (x2 : Int32) (x3 : Int32) {res : Int32 × Hp} (hf : fX4_ahead h a0 x1 x2 x3 = some res) : Met l yX4_ahead (ws_ yX4_ahead cX4_ahead 4 (some .int)) ({ frames := 5, cells := 0, slots := 0, locals := 109 } : Room) (ep_Pc G ep_cl h [.ref a0, .int x1, .int x2, .int x3]) (ep_Qi G ep_cl res.2 res.1) 0 0 (ep_A G) := by
  refine Met.ofW (cc := cX4_ahead) (maxL := 4) (ret := (some .int)) (by decide) rfl ?_
  intro p e s m args below meth c s₁ B hml hv
  obtain ⟨rfl, hR, hK, hZ⟩ := hv
  have hx := B.exec
  have hb := B.bytes
  have hr := B.returns
  have hlocks := B.notSynchronized
  have hts := atoms_spec (ws := (ws_ yX4_ahead cX4_ahead 4 (some .int))) B.pre
  have hts : ∀ w ∈ lw_all, w.before _ s = true := fun w h => hts w (List.mem_cons_of_mem _ h)
  have hown : s.vm.findClass RX4 = some m.cls := findClass_of_methodNamed B.named
  have hw : ep_W G ep_cl h s s.heap [] := ⟨hR, va_S.rf⟩
  have hl := lv_entry ([.ref a0, .int x1, .int x2, .int x3]) (n := 4) (Nat.le_of_ble_eq_true rfl)
  rw [lg_entry_eq]
  generalize (lg_sl ([.ref a0, .int x1, .int x2, .int x3]) ++ List.replicate (4 - (lg_sl ([.ref a0, .int x1, .int x2, .int x3])).length) Slot.unset).toArray = ls at hl ⊢
  have hl : lv_has ls 4 [(0, .ref a0), (1, .int x1), (2, .int x2), (3, .int x3)] := hl
  unfold fX4_ahead at hf
  have hf := (oi_c hf).2
  show wX4_ahead p l e s m below meth c G h a0 x1 x2 x3 res 0 0 s.heap ([]) (F0 m 0 ls [])
  refine lv_aload_n hx hb dX4_ahead_0 rfl (lv_at hl 0 rfl) ?_
  refine lv_iload_n hx hb dX4_ahead_1 rfl (lv_at hl 1 rfl) ?_
  obtain ⟨v1, ev1, hf⟩ := ob_s hf
  refine ep_calli0 (va_runV (As := [.int x1]) (rest := []) ⟨hx, hb, hml, hown, hts⟩ (metX4_isEcho l G h a0 x1 ev1) (cwV 1 hts (lw_V q1352 q1354 qs54 q89 q1355) rfl rfl rfl hdX4_isEcho ⟨Nat.le_of_ble_eq_true rfl, Nat.le_of_ble_eq_true rfl⟩) (ep_preV hK hZ hw rfl (ckX4_isEcho ev1)) rfl rfl hl.1 rfl (lv_room (Nat.le_of_ble_eq_true rfl)) dX4_ahead_2 ⟨Nat.le_of_ble_eq_true rfl, Nat.le_of_ble_eq_true rfl⟩) hw (fun H locs hw => ?_)
  refine lv_if_eq (tgt := 32) hx hb dX4_ahead_5 (by decide) (fun c2 => ?_) (fun c2 => ?_)
  · have hf := oi_t hf c2
    refine lv_iconst (v := iI (-1)) hx hb dX4_ahead_32 rfl ?_
    exact ep_retiW hx hb hr hlocks hw hf dX4_ahead_33
  · have hf := oi_f hf c2
    refine lv_iload_n hx hb dX4_ahead_8 rfl (lv_at hl 2 rfl) ?_
    refine lv_i2l (v := x2.toInt64) hx hb dX4_ahead_9 rfl ?_
    refine lv_lconst (v := lI 0) hx hb dX4_ahead_10 (by decide) ?_
    refine lv_ldc2 (v := (30 : Int64)) hx hb hown (hts _ q1438) dX4_ahead_11 ?_
    obtain ⟨v3, ev3, hf⟩ := ob_s hf
    refine ep_calli0 (va_runS (As := [.long x2.toInt64, .long (lI 0), .long (30 : Int64)]) (rest := []) ⟨hx, hb, hml, hown, hts⟩ (metX4_in l G h x2.toInt64 (lI 0) (30 : Int64) ev3) (va_cwS 3 hts (lw_S q1242 q1243 q89 q1244) rfl rfl rfl hsX4_in ⟨Nat.le_of_ble_eq_true rfl, Nat.le_of_ble_eq_true rfl⟩) (ep_preS hK hZ hw) rfl rfl hl.1 rfl (lv_room (Nat.le_of_ble_eq_true rfl)) dX4_ahead_14 ⟨Nat.le_of_ble_eq_true rfl, Nat.le_of_ble_eq_true rfl⟩) hw (fun H locs hw => ?_)
    refine lv_if_eq (tgt := 32) hx hb dX4_ahead_17 (by decide) (fun c4 => ?_) (fun c4 => ?_)
    · have hf := oi_t hf c4
      refine lv_iconst (v := iI (-1)) hx hb dX4_ahead_32 rfl ?_
      exact ep_retiW hx hb hr hlocks hw hf dX4_ahead_33
    · have hf := oi_f hf c4
      refine lv_iload_n hx hb dX4_ahead_20 rfl (lv_at hl 3 rfl) ?_
      refine lv_i2l (v := x3.toInt64) hx hb dX4_ahead_21 rfl ?_
      refine lv_lconst (v := lI 0) hx hb dX4_ahead_22 (by decide) ?_
      refine lv_ldc2 (v := (2 : Int64)) hx hb hown (hts _ q1347) dX4_ahead_23 ?_
      obtain ⟨v5, ev5, hf⟩ := ob_s hf
      refine ep_calli0 (va_runS (As := [.long x3.toInt64, .long (lI 0), .long (2 : Int64)]) (rest := []) ⟨hx, hb, hml, hown, hts⟩ (metX4_in l G h x3.toInt64 (lI 0) (2 : Int64) ev5) (va_cwS 3 hts (lw_S q1242 q1243 q89 q1244) rfl rfl rfl hsX4_in ⟨Nat.le_of_ble_eq_true rfl, Nat.le_of_ble_eq_true rfl⟩) (ep_preS hK hZ hw) rfl rfl hl.1 rfl (lv_room (Nat.le_of_ble_eq_true rfl)) dX4_ahead_26 ⟨Nat.le_of_ble_eq_true rfl, Nat.le_of_ble_eq_true rfl⟩) hw (fun H locs hw => ?_)
      refine lv_if_ne (tgt := 34) hx hb dX4_ahead_29 (by decide) (fun c6 => ?_) (fun c6 => ?_)
      · have hf := oi_f hf c6
        refine lv_aload_n hx hb dX4_ahead_34 rfl (lv_at hl 0 rfl) ?_
        obtain ⟨o7, eo7, hf⟩ := ob_s hf
        refine ep_callv0 (va_runV (As := []) (rest := []) ⟨hx, hb, hml, hown, hts⟩ (metX4_starts l G h a0 eo7) (cwV 0 hts (lw_V q1319 q1321 qs48 q89 q1322) rfl rfl rfl hdX4_starts ⟨Nat.le_of_ble_eq_true rfl, Nat.le_of_ble_eq_true rfl⟩) (ep_preV hK hZ hw rfl (ckX4_starts eo7)) rfl rfl hl.1 rfl (lv_room (Nat.le_of_ble_eq_true rfl)) dX4_ahead_35 ⟨Nat.le_of_ble_eq_true rfl, Nat.le_of_ble_eq_true rfl⟩) hw (fun H locs hw => ?_)
        refine lv_aload_n hx hb dX4_ahead_38 rfl (lv_at hl 0 rfl) ?_
        refine lv_iload_n hx hb dX4_ahead_39 rfl (lv_at hl 2 rfl) ?_
        obtain ⟨o8, eo8, hf⟩ := ob_s hf
        refine ep_callv0 (va_runV (As := [.int x2]) (rest := []) ⟨hx, hb, hml, hown, hts⟩ (metX4_weeksGo l G o7 a0 x2 eo8) (cwV 1 hts (lw_V q1439 q1441 qs64 q89 q1442) rfl rfl rfl hdX4_weeksGo ⟨Nat.le_of_ble_eq_true rfl, Nat.le_of_ble_eq_true rfl⟩) (ep_preV hK hZ hw rfl (ckX4_weeksGo eo8)) rfl rfl hl.1 rfl (lv_room (Nat.le_of_ble_eq_true rfl)) dX4_ahead_40 ⟨Nat.le_of_ble_eq_true rfl, Nat.le_of_ble_eq_true rfl⟩) hw (fun H locs hw => ?_)
        refine lv_iload_n hx hb dX4_ahead_43 rfl (lv_at hl 3 rfl) ?_
        refine lv_if_ne (tgt := 56) hx hb dX4_ahead_44 (by decide) (fun c9 => ?_) (fun c9 => ?_)
        · have hf := oi_f hf c9
          refine lv_iload_n hx hb dX4_ahead_56 rfl (lv_at hl 3 rfl) ?_
          refine lv_iconst (v := iI 1) hx hb dX4_ahead_57 rfl ?_
          refine lv_icmp_ne (tgt := 70) hx hb dX4_ahead_58 (by decide) (fun c10 => ?_) (fun c10 => ?_)
          · have hf := oi_f hf c10
            refine lv_aload_n hx hb dX4_ahead_70 rfl (lv_at hl 0 rfl) ?_
            refine lv_iload_n hx hb dX4_ahead_71 rfl (lv_at hl 1 rfl) ?_
            obtain ⟨v11, ev11, hf⟩ := ob_s hf
            refine ep_calli0 (va_runV (As := [.int x1]) (rest := []) ⟨hx, hb, hml, hown, hts⟩ (metX4_returnsOf l G o8 a0 x1 ev11) (cwV 1 hts (lw_V q1356 q1358 qs55 q89 q1359) rfl rfl rfl hdX4_returnsOf ⟨Nat.le_of_ble_eq_true rfl, Nat.le_of_ble_eq_true rfl⟩) (ep_preV hK hZ hw rfl (ckX4_returnsOf ev11)) rfl rfl hl.1 rfl (lv_room (Nat.le_of_ble_eq_true rfl)) dX4_ahead_72 ⟨Nat.le_of_ble_eq_true rfl, Nat.le_of_ble_eq_true rfl⟩) hw (fun H locs hw => ?_)
            exact ep_retiW hx hb hr hlocks hw hf dX4_ahead_75
          · have hf := oi_t hf c10
            refine lv_aload_n hx hb dX4_ahead_61 rfl (lv_at hl 0 rfl) ?_
            refine lv_iload_n hx hb dX4_ahead_62 rfl (lv_at hl 1 rfl) ?_
            refine lv_iconst (v := iI 3) hx hb dX4_ahead_63 rfl ?_
            obtain ⟨v12, ev12, hf⟩ := ob_s hf
            refine ep_calli0 (va_runV (As := [.int x1, .int (iI 3)]) (rest := []) ⟨hx, hb, hml, hown, hts⟩ (metX4_of l G o8 a0 x1 (iI 3) ev12) (cwV 2 hts (lw_V q1327 q1329 qs50 q89 q1330) rfl rfl rfl hdX4_of ⟨Nat.le_of_ble_eq_true rfl, Nat.le_of_ble_eq_true rfl⟩) (ep_preV hK hZ hw rfl (ckX4_of ev12)) rfl rfl hl.1 rfl (lv_room (Nat.le_of_ble_eq_true rfl)) dX4_ahead_64 ⟨Nat.le_of_ble_eq_true rfl, Nat.le_of_ble_eq_true rfl⟩) hw (fun H locs hw => ?_)
            refine lv_goto (tgt := 75) hx hb dX4_ahead_67 (by decide) ?_
            exact ep_retiW hx hb hr hlocks hw hf dX4_ahead_75
        · have hf := oi_t hf c9
          refine lv_aload_n hx hb dX4_ahead_47 rfl (lv_at hl 0 rfl) ?_
          refine lv_iload_n hx hb dX4_ahead_48 rfl (lv_at hl 1 rfl) ?_
          refine lv_iconst (v := iI 1) hx hb dX4_ahead_49 rfl ?_
          obtain ⟨v13, ev13, hf⟩ := ob_s hf
          refine ep_calli0 (va_runV (As := [.int x1, .int (iI 1)]) (rest := []) ⟨hx, hb, hml, hown, hts⟩ (metX4_of l G o8 a0 x1 (iI 1) ev13) (cwV 2 hts (lw_V q1327 q1329 qs50 q89 q1330) rfl rfl rfl hdX4_of ⟨Nat.le_of_ble_eq_true rfl, Nat.le_of_ble_eq_true rfl⟩) (ep_preV hK hZ hw rfl (ckX4_of ev13)) rfl rfl hl.1 rfl (lv_room (Nat.le_of_ble_eq_true rfl)) dX4_ahead_50 ⟨Nat.le_of_ble_eq_true rfl, Nat.le_of_ble_eq_true rfl⟩) hw (fun H locs hw => ?_)
          refine lv_goto (tgt := 75) hx hb dX4_ahead_53 (by decide) ?_
          exact ep_retiW hx hb hr hlocks hw hf dX4_ahead_75
      · have hf := oi_t hf c6
        refine lv_iconst (v := iI (-1)) hx hb dX4_ahead_32 rfl ?_
        exact ep_retiW hx hb hr hlocks hw hf dX4_ahead_33
theorem hdX4_isOpen : yX4_isOpen.cls = RX4 ∧ yX4_isOpen.cls ≠ "java/lang/invoke/MethodHandle" ∧ yX4_isOpen.cls ≠ "java/lang/invoke/VarHandle" ∧ (parseMethodDescriptor yX4_isOpen.desc).map (fun d => d.parameters.length) = some 1 := by decide +kernel
theorem ckX4_isOpen {h : Hp} {a0 : Nat} {x1 : Int32} {res : Int32} (hf : fX4_isOpen h a0 x1 = some res) : ep_cls h a0 = some 4 := by
  unfold fX4_isOpen at hf
  exact (oi_c hf).1
abbrev wX4_isOpen (p : Program) (l : Launch) (e : Env) (s : State) (m : MethodId) (below : List Frame) (meth : Method) (c : Code) (G : EG) (h : Hp) (a0 : Nat) (x1 : Int32) (res : Int32) (k9 n9 : Nat) (H : Heap) (locs : List Loc) (g : JFrame) : Prop := W p l e (headSpec (ws_ yX4_isOpen cX4_isOpen 2 (some .boolean)) ({ frames := 0, cells := 0, slots := 0, locals := 0 } : Room)).room s m ([.ref a0, .int x1] : List Value).toArray below meth c H locs k9 n9 (MQ below (ep_Qi G ep_cl h res) ([.ref a0, .int x1] : List Value).toArray s 0 0 (ep_A G)) g
set_option maxHeartbeats 4000000 in
theorem metX4_isOpen (l : Launch) (G : EG) (h : Hp) (a0 : Nat) (x1 : Int32) {res : Int32} (hf : fX4_isOpen h a0 x1 = some res) : Met l yX4_isOpen (ws_ yX4_isOpen cX4_isOpen 2 (some .boolean)) ({ frames := 0, cells := 0, slots := 0, locals := 0 } : Room) (ep_Pc G ep_cl h [.ref a0, .int x1]) (ep_Qi G ep_cl h res) 0 0 (ep_A G) := by
  refine Met.ofW (cc := cX4_isOpen) (maxL := 2) (ret := (some .boolean)) (by decide) rfl ?_
  intro p e s m args below meth c s₁ B hml hv
  obtain ⟨rfl, hR, hK, hZ⟩ := hv
  have hx := B.exec
  have hb := B.bytes
  have hr := B.returns
  have hlocks := B.notSynchronized
  have hts := atoms_spec (ws := (ws_ yX4_isOpen cX4_isOpen 2 (some .boolean))) B.pre
  have hts : ∀ w ∈ lw_all, w.before _ s = true := fun w h => hts w (List.mem_cons_of_mem _ h)
  have hown : s.vm.findClass RX4 = some m.cls := findClass_of_methodNamed B.named
  have hw : ep_W G ep_cl h s s.heap [] := ⟨hR, va_S.rf⟩
  have hl := lv_entry ([.ref a0, .int x1]) (n := 2) (Nat.le_of_ble_eq_true rfl)
  rw [lg_entry_eq]
  generalize (lg_sl ([.ref a0, .int x1]) ++ List.replicate (2 - (lg_sl ([.ref a0, .int x1])).length) Slot.unset).toArray = ls at hl ⊢
  have hl : lv_has ls 2 [(0, .ref a0), (1, .int x1)] := hl
  unfold fX4_isOpen at hf
  have hf := (oi_c hf).2
  show wX4_isOpen p l e s m below meth c G h a0 x1 res 0 0 s.heap ([]) (F0 m 0 ls [])
  refine lv_aload_n hx hb dX4_isOpen_0 rfl (lv_at hl 0 rfl) ?_
  obtain ⟨r1, er1, hf⟩ := ob_s hf
  refine ep_get (C := RX4) (T := TX4) (N := 32) (ci := 4) hx hb hts in_X4 hown hK hw rfl 1 (by decide) q1140 (gR_f er1) dX4_isOpen_1 ?_
  refine lv_bipush (v := iI 53) hx hb dX4_isOpen_4 (by decide) ?_
  obtain ⟨v2, ev2, hf⟩ := ob_s hf
  refine ep_iald hx hb hK hw ev2 dX4_isOpen_6 ?_
  refine lv_iload_n hx hb dX4_isOpen_7 rfl (lv_at hl 1 rfl) ?_
  refine lv_ishr hx hb dX4_isOpen_8 ?_
  refine lv_iconst (v := iI 1) hx hb dX4_isOpen_9 rfl ?_
  refine lv_iand hx hb dX4_isOpen_10 ?_
  refine lv_if_ne (tgt := 18) hx hb dX4_isOpen_11 (by decide) (fun c3 => ?_) (fun c3 => ?_)
  · have hf := oi_f hf c3
    refine lv_iconst (v := iI 0) hx hb dX4_isOpen_18 rfl ?_
    exact ep_retzR hx hb hr rfl hlocks hw hf dX4_isOpen_19
  · have hf := oi_t hf c3
    refine lv_iconst (v := iI 1) hx hb dX4_isOpen_14 rfl ?_
    refine lv_goto (tgt := 19) hx hb dX4_isOpen_15 (by decide) ?_
    exact ep_retzR hx hb hr rfl hlocks hw hf dX4_isOpen_19
theorem hdX4_endsSo : yX4_endsSo.cls = RX4 ∧ yX4_endsSo.cls ≠ "java/lang/invoke/MethodHandle" ∧ yX4_endsSo.cls ≠ "java/lang/invoke/VarHandle" ∧ (parseMethodDescriptor yX4_endsSo.desc).map (fun d => d.parameters.length) = some 2 := by decide +kernel
theorem ckX4_endsSo {h : Hp} {a0 : Nat} {x1 : Int32} {x2 : Int32} {res : Int32} (hf : fX4_endsSo h a0 x1 x2 = some res) : ep_cls h a0 = some 4 := by
  unfold fX4_endsSo at hf
  exact (oi_c hf).1
abbrev wX4_endsSo (p : Program) (l : Launch) (e : Env) (s : State) (m : MethodId) (below : List Frame) (meth : Method) (c : Code) (G : EG) (h : Hp) (a0 : Nat) (x1 : Int32) (x2 : Int32) (res : Int32) (k9 n9 : Nat) (H : Heap) (locs : List Loc) (g : JFrame) : Prop := W p l e (headSpec (ws_ yX4_endsSo cX4_endsSo 6 (some .boolean)) ({ frames := 1, cells := 0, slots := 0, locals := 22 } : Room)).room s m ([.ref a0, .int x1, .int x2] : List Value).toArray below meth c H locs k9 n9 (MQ below (ep_Qi G ep_cl h res) ([.ref a0, .int x1, .int x2] : List Value).toArray s 0 0 (ep_A G)) g
set_option maxHeartbeats 4000000 in
theorem metX4_endsSo (l : Launch) (G : EG) (h : Hp) (a0 : Nat) (x1 : Int32) (x2 : Int32) {res : Int32} (hf : fX4_endsSo h a0 x1 x2 = some res) : Met l yX4_endsSo (ws_ yX4_endsSo cX4_endsSo 6 (some .boolean)) ({ frames := 1, cells := 0, slots := 0, locals := 22 } : Room) (ep_Pc G ep_cl h [.ref a0, .int x1, .int x2]) (ep_Qi G ep_cl h res) 0 0 (ep_A G) := by
  refine Met.ofW (cc := cX4_endsSo) (maxL := 6) (ret := (some .boolean)) (by decide) rfl ?_
  intro p e s m args below meth c s₁ B hml hv
  obtain ⟨rfl, hR, hK, hZ⟩ := hv
  have hx := B.exec
  have hb := B.bytes
  have hr := B.returns
  have hlocks := B.notSynchronized
  have hts := atoms_spec (ws := (ws_ yX4_endsSo cX4_endsSo 6 (some .boolean))) B.pre
  have hts : ∀ w ∈ lw_all, w.before _ s = true := fun w h => hts w (List.mem_cons_of_mem _ h)
  have hown : s.vm.findClass RX4 = some m.cls := findClass_of_methodNamed B.named
  have hw : ep_W G ep_cl h s s.heap [] := ⟨hR, va_S.rf⟩
  have hl := lv_entry ([.ref a0, .int x1, .int x2]) (n := 6) (Nat.le_of_ble_eq_true rfl)
  rw [lg_entry_eq]
  generalize (lg_sl ([.ref a0, .int x1, .int x2]) ++ List.replicate (6 - (lg_sl ([.ref a0, .int x1, .int x2])).length) Slot.unset).toArray = ls at hl ⊢
  have hl : lv_has ls 6 [(0, .ref a0), (1, .int x1), (2, .int x2)] := hl
  unfold fX4_endsSo at hf
  have hf := (oi_c hf).2
  show wX4_endsSo p l e s m below meth c G h a0 x1 x2 res 0 0 s.heap ([]) (F0 m 0 ls [])
  refine lv_aload_n hx hb dX4_endsSo_0 rfl (lv_at hl 0 rfl) ?_
  obtain ⟨r1, er1, hf⟩ := ob_s hf
  refine ep_get (C := RX4) (T := TX4) (N := 32) (ci := 4) hx hb hts in_X4 hown hK hw rfl 6 (by decide) q1145 (gR_f er1) dX4_endsSo_1 ?_
  refine lv_bipush (v := iI 8) hx hb dX4_endsSo_4 (by decide) ?_
  refine lv_iload_n hx hb dX4_endsSo_6 rfl (lv_at hl 2 rfl) ?_
  refine lv_imul hx hb dX4_endsSo_7 ?_
  refine lv_iconst (v := iI 0) hx hb dX4_endsSo_8 rfl ?_
  refine lv_iadd hx hb dX4_endsSo_9 ?_
  obtain ⟨v2, ev2, hf⟩ := ob_s hf
  refine ep_iald hx hb hK hw ev2 dX4_endsSo_10 ?_
  refine lv_istore_n (lv' := [(3, .int v2), (0, .ref a0), (1, .int x1), (2, .int x2)]) hx hb dX4_endsSo_11 rfl hl (by decide) rfl (fun ls hl => ?_)
  refine lv_iload_n hx hb dX4_endsSo_12 rfl (lv_at hl 0 rfl) ?_
  refine lv_aload_n hx hb dX4_endsSo_13 rfl (lv_at hl 1 rfl) ?_
  refine lv_iload_n hx hb dX4_endsSo_14 rfl (lv_at hl 2 rfl) ?_
  refine lv_iconst (v := iI 3) hx hb dX4_endsSo_15 rfl ?_
  obtain ⟨v3, ev3, hf⟩ := ob_s hf
  refine ep_calli0 (va_runV (As := [.int x1, .int (iI 3)]) (rest := [.int v2]) ⟨hx, hb, hml, hown, hts⟩ (metX4_of l G h a0 x1 (iI 3) ev3) (cwV 2 hts (lw_V q1327 q1329 qs50 q89 q1330) rfl rfl rfl hdX4_of ⟨Nat.le_of_ble_eq_true rfl, Nat.le_of_ble_eq_true rfl⟩) (ep_preV hK hZ hw rfl (ckX4_of ev3)) rfl rfl hl.1 rfl (lv_room (Nat.le_of_ble_eq_true rfl)) dX4_endsSo_16 ⟨Nat.le_of_ble_eq_true rfl, Nat.le_of_ble_eq_true rfl⟩) hw (fun H locs hw => ?_)
  have hJ4 : wX4_endsSo p l e s m below meth c G h a0 x1 x2 res 0 0 H locs (F0 m 27 ls [.int (if v3 < v2 then iI 0 else iI 1)]) := by
    refine lv_istore (lv' := [(4, .int (if v3 < v2 then iI 0 else iI 1)), (3, .int v2), (0, .ref a0), (1, .int x1), (2, .int x2)]) hx hb dX4_endsSo_27 hl (by decide) rfl (fun ls hl => ?_)
    refine lv_iconst (v := iI 0) hx hb dX4_endsSo_29 rfl ?_
    refine lv_istore (lv' := [(5, .int (iI 0)), (4, .int (if v3 < v2 then iI 0 else iI 1)), (3, .int v2), (0, .ref a0), (1, .int x1), (2, .int x2)]) hx hb dX4_endsSo_30 hl (by decide) rfl (fun ls hl => ?_)
    obtain ⟨o6, ho6, hf⟩ := ob_s hf
    have hJ6 : ∀ (H : Heap) (locs : List Loc) (ls : Array Slot), ep_W G ep_cl h s H locs → lv_has ls 6 [(4, .int o6)] → wX4_endsSo p l e s m below meth c G h a0 x1 x2 res 0 0 H locs (F0 m 91 ls []) := by
      intro H locs ls hw hl
      refine lv_iload hx hb dX4_endsSo_91 (lv_at hl 0 rfl) ?_
      obtain ⟨z, ez, hf⟩ := ob_s hf
      obtain ⟨hz, hn⟩ := ckZ_s ez
      rw [hz] at hf
      exact ep_retzR hx hb hr hn hlocks hw hf dX4_endsSo_93
    have hL6 : ∀ (fu : Nat) (x4 : Int32) (x5 : Int32), fX4_endsSo_L32 h a0 x1 x2 v2 fu x4 x5 = some o6 → ∀ (H : Heap) (locs : List Loc) (ls : Array Slot), ep_W G ep_cl h s H locs → lv_has ls 6 [(0, .ref a0), (1, .int x1), (2, .int x2), (3, .int v2), (4, .int x4), (5, .int x5)] → wX4_endsSo p l e s m below meth c G h a0 x1 x2 res 0 0 H locs (F0 m 32 ls []) := by
      intro fu
      induction fu with
      | zero => intro x4 x5 ho6; cases ho6
      | succ fu ih6 =>
        intro x4 x5 ho6 H locs ls hw hl
        rw [fX4_endsSo_L32] at ho6
        refine lv_iload hx hb dX4_endsSo_32 (lv_at hl 5 rfl) ?_
        refine lv_iload_n hx hb dX4_endsSo_34 rfl (lv_at hl 3 rfl) ?_
        refine lv_icmp_ge (tgt := 91) hx hb dX4_endsSo_35 (by decide) (fun c7 => ?_) (fun c7 => ?_)
        · have ho6 := oi_t ho6 c7
          obtain rfl := Option.some.inj ho6
          exact hJ6 _ _ _ hw (lv_sub hl [4] rfl)
        · have ho6 := oi_f ho6 c7
          refine lv_iload hx hb dX4_endsSo_38 (lv_at hl 4 rfl) ?_
          refine lv_if_eq (tgt := 91) hx hb dX4_endsSo_40 (by decide) (fun c8 => ?_) (fun c8 => ?_)
          · have ho6 := oi_t ho6 c8
            obtain rfl := Option.some.inj ho6
            exact hJ6 _ _ _ hw (lv_sub hl [4] rfl)
          · have ho6 := oi_f ho6 c8
            refine lv_aload_n hx hb dX4_endsSo_43 rfl (lv_at hl 0 rfl) ?_
            refine lv_iload_n hx hb dX4_endsSo_44 rfl (lv_at hl 1 rfl) ?_
            refine lv_iconst (v := iI 4) hx hb dX4_endsSo_45 rfl ?_
            refine lv_aload_n hx hb dX4_endsSo_46 rfl (lv_at hl 0 rfl) ?_
            refine lv_iload_n hx hb dX4_endsSo_47 rfl (lv_at hl 1 rfl) ?_
            refine lv_iconst (v := iI 3) hx hb dX4_endsSo_48 rfl ?_
            obtain ⟨v9, ev9, ho6⟩ := ob_s ho6
            refine ep_calli0 (va_runV (As := [.int x1, .int (iI 3)]) (rest := [.int (iI 4), .int x1, .ref a0]) ⟨hx, hb, hml, hown, hts⟩ (metX4_of l G h a0 x1 (iI 3) ev9) (cwV 2 hts (lw_V q1327 q1329 qs50 q89 q1330) rfl rfl rfl hdX4_of ⟨Nat.le_of_ble_eq_true rfl, Nat.le_of_ble_eq_true rfl⟩) (ep_preV hK hZ hw rfl (ckX4_of ev9)) rfl rfl hl.1 rfl (lv_room (Nat.le_of_ble_eq_true rfl)) dX4_endsSo_49 ⟨Nat.le_of_ble_eq_true rfl, Nat.le_of_ble_eq_true rfl⟩) hw (fun H locs hw => ?_)
            refine lv_iadd hx hb dX4_endsSo_52 ?_
            refine lv_iload_n hx hb dX4_endsSo_53 rfl (lv_at hl 3 rfl) ?_
            refine lv_isub hx hb dX4_endsSo_54 ?_
            refine lv_iload hx hb dX4_endsSo_55 (lv_at hl 5 rfl) ?_
            refine lv_iadd hx hb dX4_endsSo_57 ?_
            obtain ⟨v10, ev10, ho6⟩ := ob_s ho6
            refine ep_calli0 (va_runV (As := [.int x1, .int ((((iI 4) + v9) - v2) + x5)]) (rest := []) ⟨hx, hb, hml, hown, hts⟩ (metX4_of l G h a0 x1 ((((iI 4) + v9) - v2) + x5) ev10) (cwV 2 hts (lw_V q1327 q1329 qs50 q89 q1330) rfl rfl rfl hdX4_of ⟨Nat.le_of_ble_eq_true rfl, Nat.le_of_ble_eq_true rfl⟩) (ep_preV hK hZ hw rfl (ckX4_of ev10)) rfl rfl hl.1 rfl (lv_room (Nat.le_of_ble_eq_true rfl)) dX4_endsSo_58 ⟨Nat.le_of_ble_eq_true rfl, Nat.le_of_ble_eq_true rfl⟩) hw (fun H locs hw => ?_)
            refine lv_aload_n hx hb dX4_endsSo_61 rfl (lv_at hl 0 rfl) ?_
            obtain ⟨r11, er11, ho6⟩ := ob_s ho6
            refine ep_get (C := RX4) (T := TX4) (N := 32) (ci := 4) hx hb hts in_X4 hown hK hw rfl 6 (by decide) q1145 (gR_f er11) dX4_endsSo_62 ?_
            refine lv_bipush (v := iI 8) hx hb dX4_endsSo_65 (by decide) ?_
            refine lv_iload_n hx hb dX4_endsSo_67 rfl (lv_at hl 2 rfl) ?_
            refine lv_imul hx hb dX4_endsSo_68 ?_
            refine lv_iconst (v := iI 1) hx hb dX4_endsSo_69 rfl ?_
            refine lv_iadd hx hb dX4_endsSo_70 ?_
            refine lv_iload hx hb dX4_endsSo_71 (lv_at hl 5 rfl) ?_
            refine lv_iadd hx hb dX4_endsSo_73 ?_
            obtain ⟨v12, ev12, ho6⟩ := ob_s ho6
            refine ep_iald hx hb hK hw ev12 dX4_endsSo_74 ?_
            have hJ13 : wX4_endsSo p l e s m below meth c G h a0 x1 x2 res 0 0 H locs (F0 m 83 ls [.int (if v10 = v12 then iI 1 else iI 0)]) := by
              refine lv_istore (lv' := [(4, .int (if v10 = v12 then iI 1 else iI 0)), (0, .ref a0), (1, .int x1), (2, .int x2), (3, .int v2), (5, .int x5)]) hx hb dX4_endsSo_83 hl (by decide) rfl (fun ls hl => ?_)
              refine lv_iinc (v := (x5 + iI 1)) (lv' := [(5, .int (x5 + iI 1)), (4, .int (if v10 = v12 then iI 1 else iI 0)), (0, .ref a0), (1, .int x1), (2, .int x2), (3, .int v2)]) hx hb dX4_endsSo_85 hl (k := 5) rfl rfl (by decide) rfl (fun ls hl => ?_)
              refine lv_goto (tgt := 32) hx hb dX4_endsSo_88 (by decide) ?_
              exact ih6 _ _ ho6 _ _ _ hw (lv_sub hl [2, 3, 4, 5, 1, 0] rfl)
            refine lv_icmp_ne (tgt := 82) hx hb dX4_endsSo_75 (by decide) (fun c14 => ?_) (fun c14 => ?_)
            · refine lv_iconst (v := iI 0) hx hb dX4_endsSo_82 rfl ?_
              rw [if_neg c14] at hJ13
              exact hJ13
            · refine lv_iconst (v := iI 1) hx hb dX4_endsSo_78 rfl ?_
              refine lv_goto (tgt := 83) hx hb dX4_endsSo_79 (by decide) ?_
              rw [if_pos c14] at hJ13
              exact hJ13
    exact hL6 FUEL _ _ ho6 _ _ _ hw (lv_sub hl [3, 4, 5, 2, 1, 0] rfl)
  refine lv_icmp_gt (tgt := 26) hx hb dX4_endsSo_19 (by decide) (fun c5 => ?_) (fun c5 => ?_)
  · refine lv_iconst (v := iI 0) hx hb dX4_endsSo_26 rfl ?_
    rw [if_pos c5] at hJ4
    exact hJ4
  · refine lv_iconst (v := iI 1) hx hb dX4_endsSo_22 rfl ?_
    refine lv_goto (tgt := 27) hx hb dX4_endsSo_23 (by decide) ?_
    rw [if_neg c5] at hJ4
    exact hJ4
theorem hdX4_doesMeet : yX4_doesMeet.cls = RX4 ∧ yX4_doesMeet.cls ≠ "java/lang/invoke/MethodHandle" ∧ yX4_doesMeet.cls ≠ "java/lang/invoke/VarHandle" ∧ (parseMethodDescriptor yX4_doesMeet.desc).map (fun d => d.parameters.length) = some 2 := by decide +kernel
theorem ckX4_doesMeet {h : Hp} {a0 : Nat} {x1 : Int32} {x2 : Int32} {res : Int32} (hf : fX4_doesMeet h a0 x1 x2 = some res) : ep_cls h a0 = some 4 := by
  unfold fX4_doesMeet at hf
  exact (oi_c hf).1
abbrev wX4_doesMeet (p : Program) (l : Launch) (e : Env) (s : State) (m : MethodId) (below : List Frame) (meth : Method) (c : Code) (G : EG) (h : Hp) (a0 : Nat) (x1 : Int32) (x2 : Int32) (res : Int32) (k9 n9 : Nat) (H : Heap) (locs : List Loc) (g : JFrame) : Prop := W p l e (headSpec (ws_ yX4_doesMeet cX4_doesMeet 3 (some .boolean)) ({ frames := 3, cells := 0, slots := 0, locals := 65 } : Room)).room s m ([.ref a0, .int x1, .int x2] : List Value).toArray below meth c H locs k9 n9 (MQ below (ep_Qi G ep_cl h res) ([.ref a0, .int x1, .int x2] : List Value).toArray s 0 0 (ep_A G)) g
set_option maxHeartbeats 4000000 in
theorem metX4_doesMeet (l : Launch) (G : EG) (h : Hp) (a0 : Nat) (x1 : Int32) (x2 : Int32) {res : Int32} (hf : fX4_doesMeet h a0 x1 x2 = some res) : Met l yX4_doesMeet (ws_ yX4_doesMeet cX4_doesMeet 3 (some .boolean)) ({ frames := 3, cells := 0, slots := 0, locals := 65 } : Room) (ep_Pc G ep_cl h [.ref a0, .int x1, .int x2]) (ep_Qi G ep_cl h res) 0 0 (ep_A G) := by
  refine Met.ofW (cc := cX4_doesMeet) (maxL := 3) (ret := (some .boolean)) (by decide) rfl ?_
  intro p e s m args below meth c s₁ B hml hv
  obtain ⟨rfl, hR, hK, hZ⟩ := hv
  have hx := B.exec
  have hb := B.bytes
  have hr := B.returns
  have hlocks := B.notSynchronized
  have hts := atoms_spec (ws := (ws_ yX4_doesMeet cX4_doesMeet 3 (some .boolean))) B.pre
  have hts : ∀ w ∈ lw_all, w.before _ s = true := fun w h => hts w (List.mem_cons_of_mem _ h)
  have hown : s.vm.findClass RX4 = some m.cls := findClass_of_methodNamed B.named
  have hw : ep_W G ep_cl h s s.heap [] := ⟨hR, va_S.rf⟩
  have hl := lv_entry ([.ref a0, .int x1, .int x2]) (n := 3) (Nat.le_of_ble_eq_true rfl)
  rw [lg_entry_eq]
  generalize (lg_sl ([.ref a0, .int x1, .int x2]) ++ List.replicate (3 - (lg_sl ([.ref a0, .int x1, .int x2])).length) Slot.unset).toArray = ls at hl ⊢
  have hl : lv_has ls 3 [(0, .ref a0), (1, .int x1), (2, .int x2)] := hl
  unfold fX4_doesMeet at hf
  have hf := (oi_c hf).2
  show wX4_doesMeet p l e s m below meth c G h a0 x1 x2 res 0 0 s.heap ([]) (F0 m 0 ls [])
  refine lv_aload_n hx hb dX4_doesMeet_0 rfl (lv_at hl 0 rfl) ?_
  refine lv_iload_n hx hb dX4_doesMeet_1 rfl (lv_at hl 2 rfl) ?_
  obtain ⟨v1, ev1, hf⟩ := ob_s hf
  refine ep_calli0 (va_runV (As := [.int x2]) (rest := []) ⟨hx, hb, hml, hown, hts⟩ (metX4_isOpen l G h a0 x2 ev1) (cwV 1 hts (lw_V q1467 q1469 qs69 q89 q1470) rfl rfl rfl hdX4_isOpen ⟨Nat.le_of_ble_eq_true rfl, Nat.le_of_ble_eq_true rfl⟩) (ep_preV hK hZ hw rfl (ckX4_isOpen ev1)) rfl rfl hl.1 rfl (lv_room (Nat.le_of_ble_eq_true rfl)) dX4_doesMeet_2 ⟨Nat.le_of_ble_eq_true rfl, Nat.le_of_ble_eq_true rfl⟩) hw (fun H locs hw => ?_)
  refine lv_if_eq (tgt := 49) hx hb dX4_doesMeet_5 (by decide) (fun c2 => ?_) (fun c2 => ?_)
  · have hf := oi_t hf c2
    refine lv_iconst (v := iI 0) hx hb dX4_doesMeet_49 rfl ?_
    exact ep_retzR hx hb hr rfl hlocks hw hf dX4_doesMeet_50
  · have hf := oi_f hf c2
    refine lv_aload_n hx hb dX4_doesMeet_8 rfl (lv_at hl 0 rfl) ?_
    refine lv_iload_n hx hb dX4_doesMeet_9 rfl (lv_at hl 1 rfl) ?_
    obtain ⟨v3, ev3, hf⟩ := ob_s hf
    refine ep_calli0 (va_runV (As := [.int x1]) (rest := []) ⟨hx, hb, hml, hown, hts⟩ (metX4_isSold l G h a0 x1 ev3) (cwV 1 hts (lw_V q1360 q1362 qs56 q89 q1363) rfl rfl rfl hdX4_isSold ⟨Nat.le_of_ble_eq_true rfl, Nat.le_of_ble_eq_true rfl⟩) (ep_preV hK hZ hw rfl (ckX4_isSold ev3)) rfl rfl hl.1 rfl (lv_room (Nat.le_of_ble_eq_true rfl)) dX4_doesMeet_10 ⟨Nat.le_of_ble_eq_true rfl, Nat.le_of_ble_eq_true rfl⟩) hw (fun H locs hw => ?_)
    refine lv_if_ne (tgt := 49) hx hb dX4_doesMeet_13 (by decide) (fun c4 => ?_) (fun c4 => ?_)
    · have hf := oi_f hf c4
      refine lv_iconst (v := iI 0) hx hb dX4_doesMeet_49 rfl ?_
      exact ep_retzR hx hb hr rfl hlocks hw hf dX4_doesMeet_50
    · have hf := oi_t hf c4
      refine lv_aload_n hx hb dX4_doesMeet_16 rfl (lv_at hl 0 rfl) ?_
      refine lv_iload_n hx hb dX4_doesMeet_17 rfl (lv_at hl 1 rfl) ?_
      obtain ⟨v5, ev5, hf⟩ := ob_s hf
      refine ep_calli0 (va_runV (As := [.int x1]) (rest := []) ⟨hx, hb, hml, hown, hts⟩ (metX4_returnsOf l G h a0 x1 ev5) (cwV 1 hts (lw_V q1356 q1358 qs55 q89 q1359) rfl rfl rfl hdX4_returnsOf ⟨Nat.le_of_ble_eq_true rfl, Nat.le_of_ble_eq_true rfl⟩) (ep_preV hK hZ hw rfl (ckX4_returnsOf ev5)) rfl rfl hl.1 rfl (lv_room (Nat.le_of_ble_eq_true rfl)) dX4_doesMeet_18 ⟨Nat.le_of_ble_eq_true rfl, Nat.le_of_ble_eq_true rfl⟩) hw (fun H locs hw => ?_)
      refine lv_aload_n hx hb dX4_doesMeet_21 rfl (lv_at hl 0 rfl) ?_
      obtain ⟨r6, er6, hf⟩ := ob_s hf
      refine ep_get (C := RX4) (T := TX4) (N := 32) (ci := 4) hx hb hts in_X4 hown hK hw rfl 6 (by decide) q1145 (gR_f er6) dX4_doesMeet_22 ?_
      refine lv_bipush (v := iI 8) hx hb dX4_doesMeet_25 (by decide) ?_
      refine lv_iload_n hx hb dX4_doesMeet_27 rfl (lv_at hl 2 rfl) ?_
      refine lv_imul hx hb dX4_doesMeet_28 ?_
      refine lv_bipush (v := iI 6) hx hb dX4_doesMeet_29 (by decide) ?_
      refine lv_iadd hx hb dX4_doesMeet_31 ?_
      obtain ⟨v7, ev7, hf⟩ := ob_s hf
      refine ep_iald hx hb hK hw ev7 dX4_doesMeet_32 ?_
      refine lv_icmp_lt (tgt := 49) hx hb dX4_doesMeet_33 (by decide) (fun c8 => ?_) (fun c8 => ?_)
      · have hf := oi_t hf c8
        refine lv_iconst (v := iI 0) hx hb dX4_doesMeet_49 rfl ?_
        exact ep_retzR hx hb hr rfl hlocks hw hf dX4_doesMeet_50
      · have hf := oi_f hf c8
        refine lv_aload_n hx hb dX4_doesMeet_36 rfl (lv_at hl 0 rfl) ?_
        refine lv_iload_n hx hb dX4_doesMeet_37 rfl (lv_at hl 1 rfl) ?_
        refine lv_iload_n hx hb dX4_doesMeet_38 rfl (lv_at hl 2 rfl) ?_
        obtain ⟨v9, ev9, hf⟩ := ob_s hf
        refine ep_calli0 (va_runV (As := [.int x1, .int x2]) (rest := []) ⟨hx, hb, hml, hown, hts⟩ (metX4_endsSo l G h a0 x1 x2 ev9) (cwV 2 hts (lw_V q1471 q1473 qs70 q89 q1474) rfl rfl rfl hdX4_endsSo ⟨Nat.le_of_ble_eq_true rfl, Nat.le_of_ble_eq_true rfl⟩) (ep_preV hK hZ hw rfl (ckX4_endsSo ev9)) rfl rfl hl.1 rfl (lv_room (Nat.le_of_ble_eq_true rfl)) dX4_doesMeet_39 ⟨Nat.le_of_ble_eq_true rfl, Nat.le_of_ble_eq_true rfl⟩) hw (fun H locs hw => ?_)
        refine lv_if_eq (tgt := 49) hx hb dX4_doesMeet_42 (by decide) (fun c10 => ?_) (fun c10 => ?_)
        · have hf := oi_t hf c10
          refine lv_iconst (v := iI 0) hx hb dX4_doesMeet_49 rfl ?_
          exact ep_retzR hx hb hr rfl hlocks hw hf dX4_doesMeet_50
        · have hf := oi_f hf c10
          refine lv_iconst (v := iI 1) hx hb dX4_doesMeet_45 rfl ?_
          refine lv_goto (tgt := 50) hx hb dX4_doesMeet_46 (by decide) ?_
          exact ep_retzR hx hb hr rfl hlocks hw hf dX4_doesMeet_50
theorem hdX4_when : yX4_when.cls = RX4 ∧ yX4_when.cls ≠ "java/lang/invoke/MethodHandle" ∧ yX4_when.cls ≠ "java/lang/invoke/VarHandle" ∧ (parseMethodDescriptor yX4_when.desc).map (fun d => d.parameters.length) = some 2 := by decide +kernel
theorem ckX4_when {h : Hp} {a0 : Nat} {x1 : Int32} {x2 : Int32} {res : Int32 × Hp} (hf : fX4_when h a0 x1 x2 = some res) : ep_cls h a0 = some 4 := by
  unfold fX4_when at hf
  exact (oi_c hf).1
abbrev wX4_when (p : Program) (l : Launch) (e : Env) (s : State) (m : MethodId) (below : List Frame) (meth : Method) (c : Code) (G : EG) (h : Hp) (a0 : Nat) (x1 : Int32) (x2 : Int32) (res : Int32 × Hp) (k9 n9 : Nat) (H : Heap) (locs : List Loc) (g : JFrame) : Prop := W p l e (headSpec (ws_ yX4_when cX4_when 4 (some .int)) ({ frames := 4, cells := 0, slots := 0, locals := 87 } : Room)).room s m ([.ref a0, .int x1, .int x2] : List Value).toArray below meth c H locs k9 n9 (MQ below (ep_Qi G ep_cl res.2 res.1) ([.ref a0, .int x1, .int x2] : List Value).toArray s 0 0 (ep_A G)) g
set_option maxHeartbeats 4000000 in
theorem metX4_when (l : Launch) (G : EG) (h : Hp) (a0 : Nat) (x1 : Int32) (x2 : Int32) {res : Int32 × Hp} (hf : fX4_when h a0 x1 x2 = some res) : Met l yX4_when (ws_ yX4_when cX4_when 4 (some .int)) ({ frames := 4, cells := 0, slots := 0, locals := 87 } : Room) (ep_Pc G ep_cl h [.ref a0, .int x1, .int x2]) (ep_Qi G ep_cl res.2 res.1) 0 0 (ep_A G) := by
  refine Met.ofW (cc := cX4_when) (maxL := 4) (ret := (some .int)) (by decide) rfl ?_
  intro p e s m args below meth c s₁ B hml hv
  obtain ⟨rfl, hR, hK, hZ⟩ := hv
  have hx := B.exec
  have hb := B.bytes
  have hr := B.returns
  have hlocks := B.notSynchronized
  have hts := atoms_spec (ws := (ws_ yX4_when cX4_when 4 (some .int))) B.pre
  have hts : ∀ w ∈ lw_all, w.before _ s = true := fun w h => hts w (List.mem_cons_of_mem _ h)
  have hown : s.vm.findClass RX4 = some m.cls := findClass_of_methodNamed B.named
  have hw : ep_W G ep_cl h s s.heap [] := ⟨hR, va_S.rf⟩
  have hl := lv_entry ([.ref a0, .int x1, .int x2]) (n := 4) (Nat.le_of_ble_eq_true rfl)
  rw [lg_entry_eq]
  generalize (lg_sl ([.ref a0, .int x1, .int x2]) ++ List.replicate (4 - (lg_sl ([.ref a0, .int x1, .int x2])).length) Slot.unset).toArray = ls at hl ⊢
  have hl : lv_has ls 4 [(0, .ref a0), (1, .int x1), (2, .int x2)] := hl
  unfold fX4_when at hf
  have hf := (oi_c hf).2
  show wX4_when p l e s m below meth c G h a0 x1 x2 res 0 0 s.heap ([]) (F0 m 0 ls [])
  refine lv_aload_n hx hb dX4_when_0 rfl (lv_at hl 0 rfl) ?_
  refine lv_iload_n hx hb dX4_when_1 rfl (lv_at hl 1 rfl) ?_
  obtain ⟨v1, ev1, hf⟩ := ob_s hf
  refine ep_calli0 (va_runV (As := [.int x1]) (rest := []) ⟨hx, hb, hml, hown, hts⟩ (metX4_isEcho l G h a0 x1 ev1) (cwV 1 hts (lw_V q1352 q1354 qs54 q89 q1355) rfl rfl rfl hdX4_isEcho ⟨Nat.le_of_ble_eq_true rfl, Nat.le_of_ble_eq_true rfl⟩) (ep_preV hK hZ hw rfl (ckX4_isEcho ev1)) rfl rfl hl.1 rfl (lv_room (Nat.le_of_ble_eq_true rfl)) dX4_when_2 ⟨Nat.le_of_ble_eq_true rfl, Nat.le_of_ble_eq_true rfl⟩) hw (fun H locs hw => ?_)
  refine lv_if_eq (tgt := 16) hx hb dX4_when_5 (by decide) (fun c2 => ?_) (fun c2 => ?_)
  · have hf := oi_t hf c2
    refine lv_iconst (v := iI (-1)) hx hb dX4_when_16 rfl ?_
    exact ep_retiW hx hb hr hlocks hw hf dX4_when_17
  · have hf := oi_f hf c2
    refine lv_aload_n hx hb dX4_when_8 rfl (lv_at hl 0 rfl) ?_
    refine lv_iload_n hx hb dX4_when_9 rfl (lv_at hl 2 rfl) ?_
    obtain ⟨v3, ev3, hf⟩ := ob_s hf
    refine ep_calli0 (va_runV (As := [.int x2]) (rest := []) ⟨hx, hb, hml, hown, hts⟩ (metX4_isOrder l G h a0 x2 ev3) (cwV 1 hts (lw_V q1380 q1382 qs59 q89 q1383) rfl rfl rfl hdX4_isOrder ⟨Nat.le_of_ble_eq_true rfl, Nat.le_of_ble_eq_true rfl⟩) (ep_preV hK hZ hw rfl (ckX4_isOrder ev3)) rfl rfl hl.1 rfl (lv_room (Nat.le_of_ble_eq_true rfl)) dX4_when_10 ⟨Nat.le_of_ble_eq_true rfl, Nat.le_of_ble_eq_true rfl⟩) hw (fun H locs hw => ?_)
    refine lv_if_ne (tgt := 18) hx hb dX4_when_13 (by decide) (fun c4 => ?_) (fun c4 => ?_)
    · have hf := oi_f hf c4
      refine lv_aload_n hx hb dX4_when_18 rfl (lv_at hl 0 rfl) ?_
      obtain ⟨o5, eo5, hf⟩ := ob_s hf
      refine ep_callv0 (va_runV (As := []) (rest := []) ⟨hx, hb, hml, hown, hts⟩ (metX4_starts l G h a0 eo5) (cwV 0 hts (lw_V q1319 q1321 qs48 q89 q1322) rfl rfl rfl hdX4_starts ⟨Nat.le_of_ble_eq_true rfl, Nat.le_of_ble_eq_true rfl⟩) (ep_preV hK hZ hw rfl (ckX4_starts eo5)) rfl rfl hl.1 rfl (lv_room (Nat.le_of_ble_eq_true rfl)) dX4_when_19 ⟨Nat.le_of_ble_eq_true rfl, Nat.le_of_ble_eq_true rfl⟩) hw (fun H locs hw => ?_)
      refine lv_iconst (v := iI 0) hx hb dX4_when_22 rfl ?_
      refine lv_istore_n (lv' := [(3, .int (iI 0)), (0, .ref a0), (1, .int x1), (2, .int x2)]) hx hb dX4_when_23 rfl hl (by decide) rfl (fun ls hl => ?_)
      obtain ⟨ox6, ho6, hk6⟩ := orL_s hf
      have hT6 : ∀ r, ox6 = .inl r → some r = some res := fun r eo => (by have e := orL_1 hk6 eo; exact e)
      have hJ6 : ∀ o6, ox6 = .inr o6 → ∀ (H : Heap) (locs : List Loc) (ls : Array Slot), ep_W G ep_cl o6 s H locs → lv_has ls 4 [] → wX4_when p l e s m below meth c G h a0 x1 x2 res 0 0 H locs (F0 m 51 ls []) := by
        intro o6 eo H locs ls hw hl
        have hf := orL_2 hk6 eo
        refine lv_bipush (v := iI (-4)) hx hb dX4_when_51 (by decide) ?_
        exact ep_retiW hx hb hr hlocks hw hf dX4_when_53
      have hL6 : ∀ (fu : Nat) (h : Hp) (x3 : Int32), fX4_when_L24 a0 x1 x2 fu h x3 = some ox6 → ∀ (H : Heap) (locs : List Loc) (ls : Array Slot), ep_W G ep_cl h s H locs → lv_has ls 4 [(0, .ref a0), (1, .int x1), (2, .int x2), (3, .int x3)] → wX4_when p l e s m below meth c G h a0 x1 x2 res 0 0 H locs (F0 m 24 ls []) := by
        intro fu
        induction fu with
        | zero => intro h x3 ho6; cases ho6
        | succ fu ih6 =>
          intro h x3 ho6 H locs ls hw hl
          rw [fX4_when_L24] at ho6
          refine lv_iload_n hx hb dX4_when_24 rfl (lv_at hl 3 rfl) ?_
          refine lv_bipush (v := iI 30) hx hb dX4_when_25 (by decide) ?_
          refine lv_icmp_gt (tgt := 51) hx hb dX4_when_27 (by decide) (fun c7 => ?_) (fun c7 => ?_)
          · have ho6 := oi_t ho6 c7
            exact hJ6 _ (Option.some.inj ho6).symm _ _ _ hw (lv_sub hl [] rfl)
          · have ho6 := oi_f ho6 c7
            refine lv_aload_n hx hb dX4_when_30 rfl (lv_at hl 0 rfl) ?_
            refine lv_iload_n hx hb dX4_when_31 rfl (lv_at hl 1 rfl) ?_
            refine lv_iload_n hx hb dX4_when_32 rfl (lv_at hl 2 rfl) ?_
            obtain ⟨v8, ev8, ho6⟩ := ob_s ho6
            refine ep_calli0 (va_runV (As := [.int x1, .int x2]) (rest := []) ⟨hx, hb, hml, hown, hts⟩ (metX4_doesMeet l G h a0 x1 x2 ev8) (cwV 2 hts (lw_V q1463 q1465 qs68 q89 q1466) rfl rfl rfl hdX4_doesMeet ⟨Nat.le_of_ble_eq_true rfl, Nat.le_of_ble_eq_true rfl⟩) (ep_preV hK hZ hw rfl (ckX4_doesMeet ev8)) rfl rfl hl.1 rfl (lv_room (Nat.le_of_ble_eq_true rfl)) dX4_when_33 ⟨Nat.le_of_ble_eq_true rfl, Nat.le_of_ble_eq_true rfl⟩) hw (fun H locs hw => ?_)
            refine lv_if_eq (tgt := 41) hx hb dX4_when_36 (by decide) (fun c9 => ?_) (fun c9 => ?_)
            · have ho6 := oi_t ho6 c9
              refine lv_aload_n hx hb dX4_when_41 rfl (lv_at hl 0 rfl) ?_
              obtain ⟨o10, eo10, ho6⟩ := ob_s ho6
              refine ep_callv0 (va_runV (As := []) (rest := []) ⟨hx, hb, hml, hown, hts⟩ (metX4_weekGoes l G h a0 eo10) (cwV 0 hts (lw_V q1443 q1445 qs65 q89 q1446) rfl rfl rfl hdX4_weekGoes ⟨Nat.le_of_ble_eq_true rfl, Nat.le_of_ble_eq_true rfl⟩) (ep_preV hK hZ hw rfl (ckX4_weekGoes eo10)) rfl rfl hl.1 rfl (lv_room (Nat.le_of_ble_eq_true rfl)) dX4_when_42 ⟨Nat.le_of_ble_eq_true rfl, Nat.le_of_ble_eq_true rfl⟩) hw (fun H locs hw => ?_)
              refine lv_iinc (v := (x3 + iI 1)) (lv' := [(3, .int (x3 + iI 1)), (0, .ref a0), (1, .int x1), (2, .int x2)]) hx hb dX4_when_45 hl (k := 3) rfl rfl (by decide) rfl (fun ls hl => ?_)
              refine lv_goto (tgt := 24) hx hb dX4_when_48 (by decide) ?_
              exact ih6 _ _ ho6 _ _ _ hw (lv_sub hl [1, 2, 3, 0] rfl)
            · have ho6 := oi_f ho6 c9
              refine lv_iload_n hx hb dX4_when_39 rfl (lv_at hl 3 rfl) ?_
              exact ep_retiW hx hb hr hlocks hw (hT6 _ (Option.some.inj ho6).symm) dX4_when_40
      exact hL6 FUEL _ _ ho6 _ _ _ hw (lv_sub hl [1, 2, 3, 0] rfl)
    · have hf := oi_t hf c4
      refine lv_iconst (v := iI (-1)) hx hb dX4_when_16 rfl ?_
      exact ep_retiW hx hb hr hlocks hw hf dX4_when_17
