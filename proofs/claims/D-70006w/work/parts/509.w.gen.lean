/-! walks (printed by gen.py) -/
set_option maxRecDepth 100000
theorem hdX4_lastHeard : yX4_lastHeard.cls = RX4 ∧ yX4_lastHeard.cls ≠ "java/lang/invoke/MethodHandle" ∧ yX4_lastHeard.cls ≠ "java/lang/invoke/VarHandle" ∧ (parseMethodDescriptor yX4_lastHeard.desc).map (fun d => d.parameters.length) = some 1 := by decide +kernel
theorem ckX4_lastHeard {h : Hp} {a0 : Nat} {x1 : Int32} {res : Int32} (hf : fX4_lastHeard h a0 x1 = some res) : ep_cls h a0 = some 4 := by
  unfold fX4_lastHeard at hf
  exact (oi_c hf).1
abbrev wX4_lastHeard (p : Program) (l : Launch) (e : Env) (s : State) (m : MethodId) (below : List Frame) (meth : Method) (c : Code) (G : EG) (h : Hp) (a0 : Nat) (x1 : Int32) (res : Int32) (k9 n9 : Nat) (H : Heap) (locs : List Loc) (g : JFrame) : Prop := W p l e (headSpec (ws_ yX4_lastHeard cX4_lastHeard 3 (some .int)) ({ frames := 3, cells := 0, slots := 0, locals := 65 } : Room)).room s m ([.ref a0, .int x1] : List Value).toArray below meth c H locs k9 n9 (MQ below (ep_Qi G ep_cl h res) ([.ref a0, .int x1] : List Value).toArray s 0 0 (ep_A G)) g
set_option maxHeartbeats 4000000 in
theorem metX4_lastHeard (l : Launch) (G : EG) (h : Hp) (a0 : Nat) (x1 : Int32) {res : Int32} (hf : fX4_lastHeard h a0 x1 = some res) : Met l yX4_lastHeard (ws_ yX4_lastHeard cX4_lastHeard 3 (some .int)) ({ frames := 3, cells := 0, slots := 0, locals := 65 } : Room) (ep_Pc G ep_cl h [.ref a0, .int x1]) (ep_Qi G ep_cl h res) 0 0 (ep_A G) := by
  refine Met.ofW (cc := cX4_lastHeard) (maxL := 3) (ret := (some .int)) (by decide) rfl ?_
  intro p e s m args below meth c s₁ B hml hv
  obtain ⟨rfl, hR, hK, hZ⟩ := hv
  have hx := B.exec
  have hb := B.bytes
  have hr := B.returns
  have hlocks := B.notSynchronized
  have hts := atoms_spec (ws := (ws_ yX4_lastHeard cX4_lastHeard 3 (some .int))) B.pre
  have hts : ∀ w ∈ lw_all, w.before _ s = true := fun w h => hts w (List.mem_cons_of_mem _ h)
  have hown : s.vm.findClass RX4 = some m.cls := findClass_of_methodNamed B.named
  have hw : ep_W G ep_cl h s s.heap [] := ⟨hR, va_S.rf⟩
  have hl := lv_entry ([.ref a0, .int x1]) (n := 3) (Nat.le_of_ble_eq_true rfl)
  rw [lg_entry_eq]
  generalize (lg_sl ([.ref a0, .int x1]) ++ List.replicate (3 - (lg_sl ([.ref a0, .int x1])).length) Slot.unset).toArray = ls at hl ⊢
  have hl : lv_has ls 3 [(0, .ref a0), (1, .int x1)] := hl
  unfold fX4_lastHeard at hf
  have hf := (oi_c hf).2
  show wX4_lastHeard p l e s m below meth c G h a0 x1 res 0 0 s.heap ([]) (F0 m 0 ls [])
  refine lv_aload_n hx hb dX4_lastHeard_0 rfl (lv_at hl 0 rfl) ?_
  refine lv_iload_n hx hb dX4_lastHeard_1 rfl (lv_at hl 1 rfl) ?_
  obtain ⟨v1, ev1, hf⟩ := ob_s hf
  refine ep_calli0 (va_runV (As := [.int x1]) (rest := []) ⟨hx, hb, hml, hown, hts⟩ (metX4_returnsOf l G h a0 x1 ev1) (cwV 1 hts (lw_V q1356 q1358 qs55 q89 q1359) rfl rfl rfl hdX4_returnsOf ⟨Nat.le_of_ble_eq_true rfl, Nat.le_of_ble_eq_true rfl⟩) (ep_preV hK hZ hw rfl (ckX4_returnsOf ev1)) rfl rfl hl.1 rfl (lv_room (Nat.le_of_ble_eq_true rfl)) dX4_lastHeard_2 ⟨Nat.le_of_ble_eq_true rfl, Nat.le_of_ble_eq_true rfl⟩) hw (fun H locs hw => ?_)
  refine lv_istore_n (lv' := [(2, .int v1), (0, .ref a0), (1, .int x1)]) hx hb dX4_lastHeard_5 rfl hl (by decide) rfl (fun ls hl => ?_)
  refine lv_iload_n hx hb dX4_lastHeard_6 rfl (lv_at hl 0 rfl) ?_
  refine lv_if_ne (tgt := 15) hx hb dX4_lastHeard_7 (by decide) (fun c2 => ?_) (fun c2 => ?_)
  · have hf := oi_f hf c2
    refine lv_aload_n hx hb dX4_lastHeard_15 rfl (lv_at hl 1 rfl) ?_
    refine lv_iload_n hx hb dX4_lastHeard_16 rfl (lv_at hl 2 rfl) ?_
    obtain ⟨v3, ev3, hf⟩ := ob_s hf
    refine ep_calli0 (va_runV (As := [.int x1]) (rest := []) ⟨hx, hb, hml, hown, hts⟩ (metX4_periodOf l G h a0 x1 ev3) (cwV 1 hts (lw_V q1368 q1370 qs58 q89 q1371) rfl rfl rfl hdX4_periodOf ⟨Nat.le_of_ble_eq_true rfl, Nat.le_of_ble_eq_true rfl⟩) (ep_preV hK hZ hw rfl (ckX4_periodOf ev3)) rfl rfl hl.1 rfl (lv_room (Nat.le_of_ble_eq_true rfl)) dX4_lastHeard_17 ⟨Nat.le_of_ble_eq_true rfl, Nat.le_of_ble_eq_true rfl⟩) hw (fun H locs hw => ?_)
    refine lv_aload_n hx hb dX4_lastHeard_20 rfl (lv_at hl 1 rfl) ?_
    refine lv_iload_n hx hb dX4_lastHeard_21 rfl (lv_at hl 2 rfl) ?_
    refine lv_iconst (v := iI 0) hx hb dX4_lastHeard_22 rfl ?_
    obtain ⟨v4, ev4, hf⟩ := ob_s hf
    refine ep_calli0 (va_runV (As := [.int x1, .int (iI 0)]) (rest := [.int v3]) ⟨hx, hb, hml, hown, hts⟩ (metX4_of l G h a0 x1 (iI 0) ev4) (cwV 2 hts (lw_V q1327 q1329 qs50 q89 q1330) rfl rfl rfl hdX4_of ⟨Nat.le_of_ble_eq_true rfl, Nat.le_of_ble_eq_true rfl⟩) (ep_preV hK hZ hw rfl (ckX4_of ev4)) rfl rfl hl.1 rfl (lv_room (Nat.le_of_ble_eq_true rfl)) dX4_lastHeard_23 ⟨Nat.le_of_ble_eq_true rfl, Nat.le_of_ble_eq_true rfl⟩) hw (fun H locs hw => ?_)
    refine lv_iconst (v := iI 2) hx hb dX4_lastHeard_26 rfl ?_
    refine lv_icmp_ne (tgt := 36) hx hb dX4_lastHeard_27 (by decide) (fun c5 => ?_) (fun c5 => ?_)
    · have hf := oi_f hf c5
      refine lv_iload_n hx hb dX4_lastHeard_36 rfl (lv_at hl 0 rfl) ?_
      refine lv_imul hx hb dX4_lastHeard_37 ?_
      exact ep_retiR hx hb hr hlocks hw hf dX4_lastHeard_38
    · have hf := oi_t hf c5
      refine lv_iload_n hx hb dX4_lastHeard_30 rfl (lv_at hl 0 rfl) ?_
      refine lv_iconst (v := iI 1) hx hb dX4_lastHeard_31 rfl ?_
      refine lv_isub hx hb dX4_lastHeard_32 ?_
      refine lv_goto (tgt := 37) hx hb dX4_lastHeard_33 (by decide) ?_
      refine lv_imul hx hb dX4_lastHeard_37 ?_
      exact ep_retiR hx hb hr hlocks hw hf dX4_lastHeard_38
  · have hf := oi_t hf c2
    refine lv_bipush (v := iI (-4)) hx hb dX4_lastHeard_10 (by decide) ?_
    refine lv_goto (tgt := 38) hx hb dX4_lastHeard_12 (by decide) ?_
    exact ep_retiR hx hb hr hlocks hw hf dX4_lastHeard_38
theorem hdX4_isHeard : yX4_isHeard.cls = RX4 ∧ yX4_isHeard.cls ≠ "java/lang/invoke/MethodHandle" ∧ yX4_isHeard.cls ≠ "java/lang/invoke/VarHandle" ∧ (parseMethodDescriptor yX4_isHeard.desc).map (fun d => d.parameters.length) = some 2 := by decide +kernel
theorem ckX4_isHeard {h : Hp} {a0 : Nat} {x1 : Int32} {x2 : Int32} {res : Int32} (hf : fX4_isHeard h a0 x1 x2 = some res) : ep_cls h a0 = some 4 := by
  unfold fX4_isHeard at hf
  exact (oi_c hf).1
abbrev wX4_isHeard (p : Program) (l : Launch) (e : Env) (s : State) (m : MethodId) (below : List Frame) (meth : Method) (c : Code) (G : EG) (h : Hp) (a0 : Nat) (x1 : Int32) (x2 : Int32) (res : Int32) (k9 n9 : Nat) (H : Heap) (locs : List Loc) (g : JFrame) : Prop := W p l e (headSpec (ws_ yX4_isHeard cX4_isHeard 5 (some .boolean)) ({ frames := 4, cells := 0, slots := 0, locals := 87 } : Room)).room s m ([.ref a0, .int x1, .int x2] : List Value).toArray below meth c H locs k9 n9 (MQ below (ep_Qi G ep_cl h res) ([.ref a0, .int x1, .int x2] : List Value).toArray s 0 0 (ep_A G)) g
set_option maxHeartbeats 4000000 in
theorem metX4_isHeard (l : Launch) (G : EG) (h : Hp) (a0 : Nat) (x1 : Int32) (x2 : Int32) {res : Int32} (hf : fX4_isHeard h a0 x1 x2 = some res) : Met l yX4_isHeard (ws_ yX4_isHeard cX4_isHeard 5 (some .boolean)) ({ frames := 4, cells := 0, slots := 0, locals := 87 } : Room) (ep_Pc G ep_cl h [.ref a0, .int x1, .int x2]) (ep_Qi G ep_cl h res) 0 0 (ep_A G) := by
  refine Met.ofW (cc := cX4_isHeard) (maxL := 5) (ret := (some .boolean)) (by decide) rfl ?_
  intro p e s m args below meth c s₁ B hml hv
  obtain ⟨rfl, hR, hK, hZ⟩ := hv
  have hx := B.exec
  have hb := B.bytes
  have hr := B.returns
  have hlocks := B.notSynchronized
  have hts := atoms_spec (ws := (ws_ yX4_isHeard cX4_isHeard 5 (some .boolean))) B.pre
  have hts : ∀ w ∈ lw_all, w.before _ s = true := fun w h => hts w (List.mem_cons_of_mem _ h)
  have hown : s.vm.findClass RX4 = some m.cls := findClass_of_methodNamed B.named
  have hw : ep_W G ep_cl h s s.heap [] := ⟨hR, va_S.rf⟩
  have hl := lv_entry ([.ref a0, .int x1, .int x2]) (n := 5) (Nat.le_of_ble_eq_true rfl)
  rw [lg_entry_eq]
  generalize (lg_sl ([.ref a0, .int x1, .int x2]) ++ List.replicate (5 - (lg_sl ([.ref a0, .int x1, .int x2])).length) Slot.unset).toArray = ls at hl ⊢
  have hl : lv_has ls 5 [(0, .ref a0), (1, .int x1), (2, .int x2)] := hl
  unfold fX4_isHeard at hf
  have hf := (oi_c hf).2
  show wX4_isHeard p l e s m below meth c G h a0 x1 x2 res 0 0 s.heap ([]) (F0 m 0 ls [])
  refine lv_aload_n hx hb dX4_isHeard_0 rfl (lv_at hl 0 rfl) ?_
  refine lv_iload_n hx hb dX4_isHeard_1 rfl (lv_at hl 1 rfl) ?_
  obtain ⟨v1, ev1, hf⟩ := ob_s hf
  refine ep_calli0 (va_runV (As := [.int x1]) (rest := []) ⟨hx, hb, hml, hown, hts⟩ (metX4_returnsOf l G h a0 x1 ev1) (cwV 1 hts (lw_V q1356 q1358 qs55 q89 q1359) rfl rfl rfl hdX4_returnsOf ⟨Nat.le_of_ble_eq_true rfl, Nat.le_of_ble_eq_true rfl⟩) (ep_preV hK hZ hw rfl (ckX4_returnsOf ev1)) rfl rfl hl.1 rfl (lv_room (Nat.le_of_ble_eq_true rfl)) dX4_isHeard_2 ⟨Nat.le_of_ble_eq_true rfl, Nat.le_of_ble_eq_true rfl⟩) hw (fun H locs hw => ?_)
  refine lv_istore_n (lv' := [(3, .int v1), (0, .ref a0), (1, .int x1), (2, .int x2)]) hx hb dX4_isHeard_5 rfl hl (by decide) rfl (fun ls hl => ?_)
  refine lv_iload_n hx hb dX4_isHeard_6 rfl (lv_at hl 0 rfl) ?_
  refine lv_if_ne (tgt := 12) hx hb dX4_isHeard_7 (by decide) (fun c2 => ?_) (fun c2 => ?_)
  · have hf := oi_f hf c2
    refine lv_aload_n hx hb dX4_isHeard_12 rfl (lv_at hl 1 rfl) ?_
    refine lv_iload_n hx hb dX4_isHeard_13 rfl (lv_at hl 2 rfl) ?_
    refine lv_iconst (v := iI 0) hx hb dX4_isHeard_14 rfl ?_
    obtain ⟨v3, ev3, hf⟩ := ob_s hf
    refine ep_calli0 (va_runV (As := [.int x1, .int (iI 0)]) (rest := []) ⟨hx, hb, hml, hown, hts⟩ (metX4_of l G h a0 x1 (iI 0) ev3) (cwV 2 hts (lw_V q1327 q1329 qs50 q89 q1330) rfl rfl rfl hdX4_of ⟨Nat.le_of_ble_eq_true rfl, Nat.le_of_ble_eq_true rfl⟩) (ep_preV hK hZ hw rfl (ckX4_of ev3)) rfl rfl hl.1 rfl (lv_room (Nat.le_of_ble_eq_true rfl)) dX4_isHeard_15 ⟨Nat.le_of_ble_eq_true rfl, Nat.le_of_ble_eq_true rfl⟩) hw (fun H locs hw => ?_)
    refine lv_iconst (v := iI 2) hx hb dX4_isHeard_18 rfl ?_
    have hJ4 : wX4_isHeard p l e s m below meth c G h a0 x1 x2 res 0 0 H locs (F0 m 27 ls [.int (if v3 = (iI 2) then iI 1 else iI 0)]) := by
      refine lv_istore (lv' := [(4, .int (if v3 = (iI 2) then iI 1 else iI 0)), (3, .int v1), (0, .ref a0), (1, .int x1), (2, .int x2)]) hx hb dX4_isHeard_27 hl (by decide) rfl (fun ls hl => ?_)
      refine lv_iload_n hx hb dX4_isHeard_29 rfl (lv_at hl 4 rfl) ?_
      refine lv_if_ne (tgt := 38) hx hb dX4_isHeard_30 (by decide) (fun c6 => ?_) (fun c6 => ?_)
      · have hf := oi_f hf c6
        refine lv_iload_n hx hb dX4_isHeard_38 rfl (lv_at hl 4 rfl) ?_
        refine lv_aload_n hx hb dX4_isHeard_39 rfl (lv_at hl 2 rfl) ?_
        refine lv_iload_n hx hb dX4_isHeard_40 rfl (lv_at hl 3 rfl) ?_
        obtain ⟨v7, ev7, hf⟩ := ob_s hf
        refine ep_calli0 (va_runV (As := [.int x1]) (rest := [.int x2]) ⟨hx, hb, hml, hown, hts⟩ (metX4_lastHeard l G h a0 x1 ev7) (cwV 1 hts (lw_V q1487 q1489 qs73 q89 q1490) rfl rfl rfl hdX4_lastHeard ⟨Nat.le_of_ble_eq_true rfl, Nat.le_of_ble_eq_true rfl⟩) (ep_preV hK hZ hw rfl (ckX4_lastHeard ev7)) rfl rfl hl.1 rfl (lv_room (Nat.le_of_ble_eq_true rfl)) dX4_isHeard_41 ⟨Nat.le_of_ble_eq_true rfl, Nat.le_of_ble_eq_true rfl⟩) hw (fun H locs hw => ?_)
        refine lv_icmp_gt (tgt := 61) hx hb dX4_isHeard_44 (by decide) (fun c8 => ?_) (fun c8 => ?_)
        · have hf := oi_t hf c8
          refine lv_iconst (v := iI 0) hx hb dX4_isHeard_61 rfl ?_
          exact ep_retzR hx hb hr rfl hlocks hw hf dX4_isHeard_62
        · have hf := oi_f hf c8
          refine lv_iload_n hx hb dX4_isHeard_47 rfl (lv_at hl 4 rfl) ?_
          refine lv_aload_n hx hb dX4_isHeard_48 rfl (lv_at hl 2 rfl) ?_
          refine lv_iload_n hx hb dX4_isHeard_49 rfl (lv_at hl 3 rfl) ?_
          obtain ⟨v9, ev9, hf⟩ := ob_s hf
          refine ep_calli0 (va_runV (As := [.int x1]) (rest := [.int x2]) ⟨hx, hb, hml, hown, hts⟩ (metX4_periodOf l G h a0 x1 ev9) (cwV 1 hts (lw_V q1368 q1370 qs58 q89 q1371) rfl rfl rfl hdX4_periodOf ⟨Nat.le_of_ble_eq_true rfl, Nat.le_of_ble_eq_true rfl⟩) (ep_preV hK hZ hw rfl (ckX4_periodOf ev9)) rfl rfl hl.1 rfl (lv_room (Nat.le_of_ble_eq_true rfl)) dX4_isHeard_50 ⟨Nat.le_of_ble_eq_true rfl, Nat.le_of_ble_eq_true rfl⟩) hw (fun H locs hw => ?_)
          obtain ⟨v10, ev10, hf⟩ := ob_s hf
          refine ep_irem hx hb ev10 dX4_isHeard_53 ?_
          refine lv_if_ne (tgt := 61) hx hb dX4_isHeard_54 (by decide) (fun c11 => ?_) (fun c11 => ?_)
          · have hf := oi_f hf c11
            refine lv_iconst (v := iI 0) hx hb dX4_isHeard_61 rfl ?_
            exact ep_retzR hx hb hr rfl hlocks hw hf dX4_isHeard_62
          · have hf := oi_t hf c11
            refine lv_iconst (v := iI 1) hx hb dX4_isHeard_57 rfl ?_
            refine lv_goto (tgt := 62) hx hb dX4_isHeard_58 (by decide) ?_
            exact ep_retzR hx hb hr rfl hlocks hw hf dX4_isHeard_62
      · have hf := oi_t hf c6
        refine lv_iload hx hb dX4_isHeard_33 (lv_at hl 0 rfl) ?_
        refine lv_goto (tgt := 62) hx hb dX4_isHeard_35 (by decide) ?_
        obtain ⟨z, ez, hf⟩ := ob_s hf
        obtain ⟨hz, hn⟩ := ckZ_s ez
        rw [hz] at hf
        exact ep_retzR hx hb hr hn hlocks hw hf dX4_isHeard_62
    refine lv_icmp_ne (tgt := 26) hx hb dX4_isHeard_19 (by decide) (fun c5 => ?_) (fun c5 => ?_)
    · refine lv_iconst (v := iI 0) hx hb dX4_isHeard_26 rfl ?_
      rw [if_neg c5] at hJ4
      exact hJ4
    · refine lv_iconst (v := iI 1) hx hb dX4_isHeard_22 rfl ?_
      refine lv_goto (tgt := 27) hx hb dX4_isHeard_23 (by decide) ?_
      rw [if_pos c5] at hJ4
      exact hJ4
  · have hf := oi_t hf c2
    refine lv_iconst (v := iI 0) hx hb dX4_isHeard_10 rfl ?_
    exact ep_retzR hx hb hr rfl hlocks hw hf dX4_isHeard_11
theorem hdX4_heardIn : yX4_heardIn.cls = RX4 ∧ yX4_heardIn.cls ≠ "java/lang/invoke/MethodHandle" ∧ yX4_heardIn.cls ≠ "java/lang/invoke/VarHandle" ∧ (parseMethodDescriptor yX4_heardIn.desc).map (fun d => d.parameters.length) = some 2 := by decide +kernel
theorem ckX4_heardIn {h : Hp} {a0 : Nat} {x1 : Int32} {x2 : Int32} {res : Int32} (hf : fX4_heardIn h a0 x1 x2 = some res) : ep_cls h a0 = some 4 := by
  unfold fX4_heardIn at hf
  exact (oi_c hf).1
abbrev wX4_heardIn (p : Program) (l : Launch) (e : Env) (s : State) (m : MethodId) (below : List Frame) (meth : Method) (c : Code) (G : EG) (h : Hp) (a0 : Nat) (x1 : Int32) (x2 : Int32) (res : Int32) (k9 n9 : Nat) (H : Heap) (locs : List Loc) (g : JFrame) : Prop := W p l e (headSpec (ws_ yX4_heardIn cX4_heardIn 5 (some .int)) ({ frames := 5, cells := 0, slots := 0, locals := 111 } : Room)).room s m ([.ref a0, .int x1, .int x2] : List Value).toArray below meth c H locs k9 n9 (MQ below (ep_Qi G ep_cl h res) ([.ref a0, .int x1, .int x2] : List Value).toArray s 0 0 (ep_A G)) g
set_option maxHeartbeats 4000000 in
theorem metX4_heardIn (l : Launch) (G : EG) (h : Hp) (a0 : Nat) (x1 : Int32) (x2 : Int32) {res : Int32} (hf : fX4_heardIn h a0 x1 x2 = some res) : Met l yX4_heardIn (ws_ yX4_heardIn cX4_heardIn 5 (some .int)) ({ frames := 5, cells := 0, slots := 0, locals := 111 } : Room) (ep_Pc G ep_cl h [.ref a0, .int x1, .int x2]) (ep_Qi G ep_cl h res) 0 0 (ep_A G) := by
  refine Met.ofW (cc := cX4_heardIn) (maxL := 5) (ret := (some .int)) (by decide) rfl ?_
  intro p e s m args below meth c s₁ B hml hv
  obtain ⟨rfl, hR, hK, hZ⟩ := hv
  have hx := B.exec
  have hb := B.bytes
  have hr := B.returns
  have hlocks := B.notSynchronized
  have hts := atoms_spec (ws := (ws_ yX4_heardIn cX4_heardIn 5 (some .int))) B.pre
  have hts : ∀ w ∈ lw_all, w.before _ s = true := fun w h => hts w (List.mem_cons_of_mem _ h)
  have hown : s.vm.findClass RX4 = some m.cls := findClass_of_methodNamed B.named
  have hw : ep_W G ep_cl h s s.heap [] := ⟨hR, va_S.rf⟩
  have hl := lv_entry ([.ref a0, .int x1, .int x2]) (n := 5) (Nat.le_of_ble_eq_true rfl)
  rw [lg_entry_eq]
  generalize (lg_sl ([.ref a0, .int x1, .int x2]) ++ List.replicate (5 - (lg_sl ([.ref a0, .int x1, .int x2])).length) Slot.unset).toArray = ls at hl ⊢
  have hl : lv_has ls 5 [(0, .ref a0), (1, .int x1), (2, .int x2)] := hl
  unfold fX4_heardIn at hf
  have hf := (oi_c hf).2
  show wX4_heardIn p l e s m below meth c G h a0 x1 x2 res 0 0 s.heap ([]) (F0 m 0 ls [])
  refine lv_iconst (v := iI 0) hx hb dX4_heardIn_0 rfl ?_
  refine lv_istore_n (lv' := [(3, .int (iI 0)), (0, .ref a0), (1, .int x1), (2, .int x2)]) hx hb dX4_heardIn_1 rfl hl (by decide) rfl (fun ls hl => ?_)
  refine lv_iconst (v := iI 0) hx hb dX4_heardIn_2 rfl ?_
  refine lv_istore (lv' := [(4, .int (iI 0)), (3, .int (iI 0)), (0, .ref a0), (1, .int x1), (2, .int x2)]) hx hb dX4_heardIn_3 hl (by decide) rfl (fun ls hl => ?_)
  obtain ⟨o1, ho1, hf⟩ := ob_s hf
  have hJ1 : ∀ (H : Heap) (locs : List Loc) (ls : Array Slot), ep_W G ep_cl h s H locs → lv_has ls 5 [(3, .int o1)] → wX4_heardIn p l e s m below meth c G h a0 x1 x2 res 0 0 H locs (F0 m 55 ls []) := by
    intro H locs ls hw hl
    refine lv_iload_n hx hb dX4_heardIn_55 rfl (lv_at hl 0 rfl) ?_
    exact ep_retiR hx hb hr hlocks hw hf dX4_heardIn_56
  have hL1 : ∀ (fu : Nat) (x3 : Int32) (x4 : Int32), fX4_heardIn_L5 h a0 x1 x2 fu x3 x4 = some o1 → ∀ (H : Heap) (locs : List Loc) (ls : Array Slot), ep_W G ep_cl h s H locs → lv_has ls 5 [(0, .ref a0), (1, .int x1), (2, .int x2), (3, .int x3), (4, .int x4)] → wX4_heardIn p l e s m below meth c G h a0 x1 x2 res 0 0 H locs (F0 m 5 ls []) := by
    intro fu
    induction fu with
    | zero => intro x3 x4 ho1; cases ho1
    | succ fu ih1 =>
      intro x3 x4 ho1 H locs ls hw hl
      rw [fX4_heardIn_L5] at ho1
      refine lv_iload hx hb dX4_heardIn_5 (lv_at hl 4 rfl) ?_
      refine lv_aload_n hx hb dX4_heardIn_7 rfl (lv_at hl 0 rfl) ?_
      obtain ⟨v2, ev2, ho1⟩ := ob_s ho1
      refine ep_get (C := RX4) (T := TX4) (N := 32) (ci := 4) hx hb hts in_X4 hown hK hw rfl 4 (by decide) q1143 (gI_f ev2) dX4_heardIn_8 ?_
      refine lv_icmp_ge (tgt := 55) hx hb dX4_heardIn_11 (by decide) (fun c3 => ?_) (fun c3 => ?_)
      · have ho1 := oi_t ho1 c3
        obtain rfl := Option.some.inj ho1
        exact hJ1 _ _ _ hw (lv_sub hl [3] rfl)
      · have ho1 := oi_f ho1 c3
        refine lv_iload_n hx hb dX4_heardIn_14 rfl (lv_at hl 3 rfl) ?_
        refine lv_aload_n hx hb dX4_heardIn_15 rfl (lv_at hl 0 rfl) ?_
        refine lv_iload hx hb dX4_heardIn_16 (lv_at hl 4 rfl) ?_
        refine lv_iconst (v := iI 2) hx hb dX4_heardIn_18 rfl ?_
        obtain ⟨v4, ev4, ho1⟩ := ob_s ho1
        refine ep_calli0 (va_runV (As := [.int x4, .int (iI 2)]) (rest := [.int x3]) ⟨hx, hb, hml, hown, hts⟩ (metX4_of l G h a0 x4 (iI 2) ev4) (cwV 2 hts (lw_V q1327 q1329 qs50 q89 q1330) rfl rfl rfl hdX4_of ⟨Nat.le_of_ble_eq_true rfl, Nat.le_of_ble_eq_true rfl⟩) (ep_preV hK hZ hw rfl (ckX4_of ev4)) rfl rfl hl.1 rfl (lv_room (Nat.le_of_ble_eq_true rfl)) dX4_heardIn_19 ⟨Nat.le_of_ble_eq_true rfl, Nat.le_of_ble_eq_true rfl⟩) hw (fun H locs hw => ?_)
        refine lv_iload_n hx hb dX4_heardIn_22 rfl (lv_at hl 1 rfl) ?_
        obtain ⟨o5, ho5, ho1⟩ := ob_s ho1
        have hJ5 : ∀ (H : Heap) (locs : List Loc) (ls : Array Slot), ep_W G ep_cl h s H locs → lv_has ls 5 [(0, .ref a0), (1, .int x1), (2, .int x2), (4, .int x4)] → wX4_heardIn p l e s m below meth c G h a0 x1 x2 res 0 0 H locs (F0 m 41 ls [.int o5, .int x3]) := by
          intro H locs ls hw hl
          obtain ⟨v9, ev9, ho1⟩ := ob_s ho1
          refine ep_calli0 (va_runS (As := [.int o5]) (rest := [.int x3]) ⟨hx, hb, hml, hown, hts⟩ (metX4_flag l G h o5 ev9) (va_cwS 1 hts (lw_S q1308 q1309 q89 q1310) rfl rfl rfl hsX4_flag ⟨Nat.le_of_ble_eq_true rfl, Nat.le_of_ble_eq_true rfl⟩) (ep_preS hK hZ hw) rfl rfl hl.1 rfl (lv_room (Nat.le_of_ble_eq_true rfl)) dX4_heardIn_41 ⟨Nat.le_of_ble_eq_true rfl, Nat.le_of_ble_eq_true rfl⟩) hw (fun H locs hw => ?_)
          refine lv_iload hx hb dX4_heardIn_44 (lv_at hl 3 rfl) ?_
          refine lv_ishl hx hb dX4_heardIn_46 ?_
          refine lv_ior hx hb dX4_heardIn_47 ?_
          refine lv_istore_n (lv' := [(3, .int (x3 ||| (v9 <<< (x4 &&& 31)))), (0, .ref a0), (1, .int x1), (2, .int x2), (4, .int x4)]) hx hb dX4_heardIn_48 rfl hl (by decide) rfl (fun ls hl => ?_)
          refine lv_iinc (v := (x4 + iI 1)) (lv' := [(4, .int (x4 + iI 1)), (3, .int (x3 ||| (v9 <<< (x4 &&& 31)))), (0, .ref a0), (1, .int x1), (2, .int x2)]) hx hb dX4_heardIn_49 hl (k := 4) rfl rfl (by decide) rfl (fun ls hl => ?_)
          refine lv_goto (tgt := 5) hx hb dX4_heardIn_52 (by decide) ?_
          exact ih1 _ _ ho1 _ _ _ hw (lv_sub hl [2, 3, 4, 1, 0] rfl)
        refine lv_icmp_ne (tgt := 40) hx hb dX4_heardIn_23 (by decide) (fun c6 => ?_) (fun c6 => ?_)
        · have ho5 := oi_f ho5 c6
          refine lv_iconst (v := iI 0) hx hb dX4_heardIn_40 rfl ?_
          obtain rfl := Option.some.inj ho5
          exact hJ5 _ _ _ hw (lv_sub hl [0, 1, 2, 4] rfl)
        · have ho5 := oi_t ho5 c6
          refine lv_aload_n hx hb dX4_heardIn_26 rfl (lv_at hl 0 rfl) ?_
          refine lv_iload hx hb dX4_heardIn_27 (lv_at hl 4 rfl) ?_
          refine lv_iload_n hx hb dX4_heardIn_29 rfl (lv_at hl 2 rfl) ?_
          obtain ⟨v7, ev7, ho5⟩ := ob_s ho5
          refine ep_calli0 (va_runV (As := [.int x4, .int x2]) (rest := [.int x3]) ⟨hx, hb, hml, hown, hts⟩ (metX4_isHeard l G h a0 x4 x2 ev7) (cwV 2 hts (lw_V q1483 q1485 qs72 q89 q1486) rfl rfl rfl hdX4_isHeard ⟨Nat.le_of_ble_eq_true rfl, Nat.le_of_ble_eq_true rfl⟩) (ep_preV hK hZ hw rfl (ckX4_isHeard ev7)) rfl rfl hl.1 rfl (lv_room (Nat.le_of_ble_eq_true rfl)) dX4_heardIn_30 ⟨Nat.le_of_ble_eq_true rfl, Nat.le_of_ble_eq_true rfl⟩) hw (fun H locs hw => ?_)
          refine lv_if_eq (tgt := 40) hx hb dX4_heardIn_33 (by decide) (fun c8 => ?_) (fun c8 => ?_)
          · have ho5 := oi_t ho5 c8
            refine lv_iconst (v := iI 0) hx hb dX4_heardIn_40 rfl ?_
            obtain rfl := Option.some.inj ho5
            exact hJ5 _ _ _ hw (lv_sub hl [0, 1, 2, 4] rfl)
          · have ho5 := oi_f ho5 c8
            refine lv_iconst (v := iI 1) hx hb dX4_heardIn_36 rfl ?_
            refine lv_goto (tgt := 41) hx hb dX4_heardIn_37 (by decide) ?_
            obtain rfl := Option.some.inj ho5
            exact hJ5 _ _ _ hw (lv_sub hl [0, 1, 2, 4] rfl)
  exact hL1 FUEL _ _ ho1 _ _ _ hw (lv_sub hl [2, 3, 4, 1, 0] rfl)
theorem hdX4_heard : yX4_heard.cls = RX4 ∧ yX4_heard.cls ≠ "java/lang/invoke/MethodHandle" ∧ yX4_heard.cls ≠ "java/lang/invoke/VarHandle" ∧ (parseMethodDescriptor yX4_heard.desc).map (fun d => d.parameters.length) = some 2 := by decide +kernel
theorem ckX4_heard {h : Hp} {a0 : Nat} {x1 : Int32} {x2 : Int32} {res : Int32 × Hp} (hf : fX4_heard h a0 x1 x2 = some res) : ep_cls h a0 = some 4 := by
  unfold fX4_heard at hf
  exact (oi_c hf).1
abbrev wX4_heard (p : Program) (l : Launch) (e : Env) (s : State) (m : MethodId) (below : List Frame) (meth : Method) (c : Code) (G : EG) (h : Hp) (a0 : Nat) (x1 : Int32) (x2 : Int32) (res : Int32 × Hp) (k9 n9 : Nat) (H : Heap) (locs : List Loc) (g : JFrame) : Prop := W p l e (headSpec (ws_ yX4_heard cX4_heard 3 (some .int)) ({ frames := 6, cells := 0, slots := 0, locals := 135 } : Room)).room s m ([.ref a0, .int x1, .int x2] : List Value).toArray below meth c H locs k9 n9 (MQ below (ep_Qi G ep_cl res.2 res.1) ([.ref a0, .int x1, .int x2] : List Value).toArray s 0 0 (ep_A G)) g
set_option maxHeartbeats 4000000 in
theorem metX4_heard (l : Launch) (G : EG) (h : Hp) (a0 : Nat) (x1 : Int32) (x2 : Int32) {res : Int32 × Hp} (hf : fX4_heard h a0 x1 x2 = some res) : Met l yX4_heard (ws_ yX4_heard cX4_heard 3 (some .int)) ({ frames := 6, cells := 0, slots := 0, locals := 135 } : Room) (ep_Pc G ep_cl h [.ref a0, .int x1, .int x2]) (ep_Qi G ep_cl res.2 res.1) 0 0 (ep_A G) := by
  refine Met.ofW (cc := cX4_heard) (maxL := 3) (ret := (some .int)) (by decide) rfl ?_
  intro p e s m args below meth c s₁ B hml hv
  obtain ⟨rfl, hR, hK, hZ⟩ := hv
  have hx := B.exec
  have hb := B.bytes
  have hr := B.returns
  have hlocks := B.notSynchronized
  have hts := atoms_spec (ws := (ws_ yX4_heard cX4_heard 3 (some .int))) B.pre
  have hts : ∀ w ∈ lw_all, w.before _ s = true := fun w h => hts w (List.mem_cons_of_mem _ h)
  have hown : s.vm.findClass RX4 = some m.cls := findClass_of_methodNamed B.named
  have hw : ep_W G ep_cl h s s.heap [] := ⟨hR, va_S.rf⟩
  have hl := lv_entry ([.ref a0, .int x1, .int x2]) (n := 3) (Nat.le_of_ble_eq_true rfl)
  rw [lg_entry_eq]
  generalize (lg_sl ([.ref a0, .int x1, .int x2]) ++ List.replicate (3 - (lg_sl ([.ref a0, .int x1, .int x2])).length) Slot.unset).toArray = ls at hl ⊢
  have hl : lv_has ls 3 [(0, .ref a0), (1, .int x1), (2, .int x2)] := hl
  unfold fX4_heard at hf
  have hf := (oi_c hf).2
  show wX4_heard p l e s m below meth c G h a0 x1 x2 res 0 0 s.heap ([]) (F0 m 0 ls [])
  refine lv_aload_n hx hb dX4_heard_0 rfl (lv_at hl 0 rfl) ?_
  refine lv_iload_n hx hb dX4_heard_1 rfl (lv_at hl 1 rfl) ?_
  obtain ⟨v1, ev1, hf⟩ := ob_s hf
  refine ep_calli0 (va_runV (As := [.int x1]) (rest := []) ⟨hx, hb, hml, hown, hts⟩ (metX4_isPen l G h a0 x1 ev1) (cwV 1 hts (lw_V q1343 q1345 qs53 q89 q1346) rfl rfl rfl hdX4_isPen ⟨Nat.le_of_ble_eq_true rfl, Nat.le_of_ble_eq_true rfl⟩) (ep_preV hK hZ hw rfl (ckX4_isPen ev1)) rfl rfl hl.1 rfl (lv_room (Nat.le_of_ble_eq_true rfl)) dX4_heard_2 ⟨Nat.le_of_ble_eq_true rfl, Nat.le_of_ble_eq_true rfl⟩) hw (fun H locs hw => ?_)
  refine lv_if_eq (tgt := 20) hx hb dX4_heard_5 (by decide) (fun c2 => ?_) (fun c2 => ?_)
  · have hf := oi_t hf c2
    refine lv_iconst (v := iI (-1)) hx hb dX4_heard_20 rfl ?_
    exact ep_retiW hx hb hr hlocks hw hf dX4_heard_21
  · have hf := oi_f hf c2
    refine lv_iload_n hx hb dX4_heard_8 rfl (lv_at hl 2 rfl) ?_
    refine lv_i2l (v := x2.toInt64) hx hb dX4_heard_9 rfl ?_
    refine lv_lconst (v := lI 0) hx hb dX4_heard_10 (by decide) ?_
    refine lv_ldc2 (v := (99 : Int64)) hx hb hown (hts _ q1408) dX4_heard_11 ?_
    obtain ⟨v3, ev3, hf⟩ := ob_s hf
    refine ep_calli0 (va_runS (As := [.long x2.toInt64, .long (lI 0), .long (99 : Int64)]) (rest := []) ⟨hx, hb, hml, hown, hts⟩ (metX4_in l G h x2.toInt64 (lI 0) (99 : Int64) ev3) (va_cwS 3 hts (lw_S q1242 q1243 q89 q1244) rfl rfl rfl hsX4_in ⟨Nat.le_of_ble_eq_true rfl, Nat.le_of_ble_eq_true rfl⟩) (ep_preS hK hZ hw) rfl rfl hl.1 rfl (lv_room (Nat.le_of_ble_eq_true rfl)) dX4_heard_14 ⟨Nat.le_of_ble_eq_true rfl, Nat.le_of_ble_eq_true rfl⟩) hw (fun H locs hw => ?_)
    refine lv_if_ne (tgt := 22) hx hb dX4_heard_17 (by decide) (fun c4 => ?_) (fun c4 => ?_)
    · have hf := oi_f hf c4
      refine lv_aload_n hx hb dX4_heard_22 rfl (lv_at hl 0 rfl) ?_
      obtain ⟨o5, eo5, hf⟩ := ob_s hf
      refine ep_callv0 (va_runV (As := []) (rest := []) ⟨hx, hb, hml, hown, hts⟩ (metX4_starts l G h a0 eo5) (cwV 0 hts (lw_V q1319 q1321 qs48 q89 q1322) rfl rfl rfl hdX4_starts ⟨Nat.le_of_ble_eq_true rfl, Nat.le_of_ble_eq_true rfl⟩) (ep_preV hK hZ hw rfl (ckX4_starts eo5)) rfl rfl hl.1 rfl (lv_room (Nat.le_of_ble_eq_true rfl)) dX4_heard_23 ⟨Nat.le_of_ble_eq_true rfl, Nat.le_of_ble_eq_true rfl⟩) hw (fun H locs hw => ?_)
      refine lv_aload_n hx hb dX4_heard_26 rfl (lv_at hl 0 rfl) ?_
      refine lv_iload_n hx hb dX4_heard_27 rfl (lv_at hl 1 rfl) ?_
      refine lv_iload_n hx hb dX4_heard_28 rfl (lv_at hl 2 rfl) ?_
      obtain ⟨v6, ev6, hf⟩ := ob_s hf
      refine ep_calli0 (va_runV (As := [.int x1, .int x2]) (rest := []) ⟨hx, hb, hml, hown, hts⟩ (metX4_heardIn l G o5 a0 x1 x2 ev6) (cwV 2 hts (lw_V q1479 q1481 qs71 q89 q1482) rfl rfl rfl hdX4_heardIn ⟨Nat.le_of_ble_eq_true rfl, Nat.le_of_ble_eq_true rfl⟩) (ep_preV hK hZ hw rfl (ckX4_heardIn ev6)) rfl rfl hl.1 rfl (lv_room (Nat.le_of_ble_eq_true rfl)) dX4_heard_29 ⟨Nat.le_of_ble_eq_true rfl, Nat.le_of_ble_eq_true rfl⟩) hw (fun H locs hw => ?_)
      exact ep_retiW hx hb hr hlocks hw hf dX4_heard_32
    · have hf := oi_t hf c4
      refine lv_iconst (v := iI (-1)) hx hb dX4_heard_20 rfl ?_
      exact ep_retiW hx hb hr hlocks hw hf dX4_heard_21
theorem hdX4_together : yX4_together.cls = RX4 ∧ yX4_together.cls ≠ "java/lang/invoke/MethodHandle" ∧ yX4_together.cls ≠ "java/lang/invoke/VarHandle" ∧ (parseMethodDescriptor yX4_together.desc).map (fun d => d.parameters.length) = some 1 := by decide +kernel
theorem ckX4_together {h : Hp} {a0 : Nat} {x1 : Int32} {res : Int32 × Hp} (hf : fX4_together h a0 x1 = some res) : ep_cls h a0 = some 4 := by
  unfold fX4_together at hf
  exact (oi_c hf).1
abbrev wX4_together (p : Program) (l : Launch) (e : Env) (s : State) (m : MethodId) (below : List Frame) (meth : Method) (c : Code) (G : EG) (h : Hp) (a0 : Nat) (x1 : Int32) (res : Int32 × Hp) (k9 n9 : Nat) (H : Heap) (locs : List Loc) (g : JFrame) : Prop := W p l e (headSpec (ws_ yX4_together cX4_together 4 (some .int)) ({ frames := 6, cells := 0, slots := 0, locals := 135 } : Room)).room s m ([.ref a0, .int x1] : List Value).toArray below meth c H locs k9 n9 (MQ below (ep_Qi G ep_cl res.2 res.1) ([.ref a0, .int x1] : List Value).toArray s 0 0 (ep_A G)) g
set_option maxHeartbeats 4000000 in
theorem metX4_together (l : Launch) (G : EG) (h : Hp) (a0 : Nat) (x1 : Int32) {res : Int32 × Hp} (hf : fX4_together h a0 x1 = some res) : Met l yX4_together (ws_ yX4_together cX4_together 4 (some .int)) ({ frames := 6, cells := 0, slots := 0, locals := 135 } : Room) (ep_Pc G ep_cl h [.ref a0, .int x1]) (ep_Qi G ep_cl res.2 res.1) 0 0 (ep_A G) := by
  refine Met.ofW (cc := cX4_together) (maxL := 4) (ret := (some .int)) (by decide) rfl ?_
  intro p e s m args below meth c s₁ B hml hv
  obtain ⟨rfl, hR, hK, hZ⟩ := hv
  have hx := B.exec
  have hb := B.bytes
  have hr := B.returns
  have hlocks := B.notSynchronized
  have hts := atoms_spec (ws := (ws_ yX4_together cX4_together 4 (some .int))) B.pre
  have hts : ∀ w ∈ lw_all, w.before _ s = true := fun w h => hts w (List.mem_cons_of_mem _ h)
  have hown : s.vm.findClass RX4 = some m.cls := findClass_of_methodNamed B.named
  have hw : ep_W G ep_cl h s s.heap [] := ⟨hR, va_S.rf⟩
  have hl := lv_entry ([.ref a0, .int x1]) (n := 4) (Nat.le_of_ble_eq_true rfl)
  rw [lg_entry_eq]
  generalize (lg_sl ([.ref a0, .int x1]) ++ List.replicate (4 - (lg_sl ([.ref a0, .int x1])).length) Slot.unset).toArray = ls at hl ⊢
  have hl : lv_has ls 4 [(0, .ref a0), (1, .int x1)] := hl
  unfold fX4_together at hf
  have hf := (oi_c hf).2
  show wX4_together p l e s m below meth c G h a0 x1 res 0 0 s.heap ([]) (F0 m 0 ls [])
  refine lv_aload_n hx hb dX4_together_0 rfl (lv_at hl 0 rfl) ?_
  refine lv_iload_n hx hb dX4_together_1 rfl (lv_at hl 1 rfl) ?_
  obtain ⟨v1, ev1, hf⟩ := ob_s hf
  refine ep_calli0 (va_runV (As := [.int x1]) (rest := []) ⟨hx, hb, hml, hown, hts⟩ (metX4_isPen l G h a0 x1 ev1) (cwV 1 hts (lw_V q1343 q1345 qs53 q89 q1346) rfl rfl rfl hdX4_isPen ⟨Nat.le_of_ble_eq_true rfl, Nat.le_of_ble_eq_true rfl⟩) (ep_preV hK hZ hw rfl (ckX4_isPen ev1)) rfl rfl hl.1 rfl (lv_room (Nat.le_of_ble_eq_true rfl)) dX4_together_2 ⟨Nat.le_of_ble_eq_true rfl, Nat.le_of_ble_eq_true rfl⟩) hw (fun H locs hw => ?_)
  refine lv_if_ne (tgt := 10) hx hb dX4_together_5 (by decide) (fun c2 => ?_) (fun c2 => ?_)
  · have hf := oi_f hf c2
    refine lv_aload_n hx hb dX4_together_10 rfl (lv_at hl 0 rfl) ?_
    obtain ⟨o3, eo3, hf⟩ := ob_s hf
    refine ep_callv0 (va_runV (As := []) (rest := []) ⟨hx, hb, hml, hown, hts⟩ (metX4_starts l G h a0 eo3) (cwV 0 hts (lw_V q1319 q1321 qs48 q89 q1322) rfl rfl rfl hdX4_starts ⟨Nat.le_of_ble_eq_true rfl, Nat.le_of_ble_eq_true rfl⟩) (ep_preV hK hZ hw rfl (ckX4_starts eo3)) rfl rfl hl.1 rfl (lv_room (Nat.le_of_ble_eq_true rfl)) dX4_together_11 ⟨Nat.le_of_ble_eq_true rfl, Nat.le_of_ble_eq_true rfl⟩) hw (fun H locs hw => ?_)
    refine lv_aload_n hx hb dX4_together_14 rfl (lv_at hl 0 rfl) ?_
    refine lv_iload_n hx hb dX4_together_15 rfl (lv_at hl 1 rfl) ?_
    obtain ⟨v4, ev4, hf⟩ := ob_s hf
    refine ep_calli0 (va_runV (As := [.int x1]) (rest := []) ⟨hx, hb, hml, hown, hts⟩ (metX4_inPen l G o3 a0 x1 ev4) (cwV 1 hts (lw_V q1323 q1325 qs49 q89 q1326) rfl rfl rfl hdX4_inPen ⟨Nat.le_of_ble_eq_true rfl, Nat.le_of_ble_eq_true rfl⟩) (ep_preV hK hZ hw rfl (ckX4_inPen ev4)) rfl rfl hl.1 rfl (lv_room (Nat.le_of_ble_eq_true rfl)) dX4_together_16 ⟨Nat.le_of_ble_eq_true rfl, Nat.le_of_ble_eq_true rfl⟩) hw (fun H locs hw => ?_)
    refine lv_istore_n (lv' := [(2, .int v4), (0, .ref a0), (1, .int x1)]) hx hb dX4_together_19 rfl hl (by decide) rfl (fun ls hl => ?_)
    refine lv_iconst (v := iI 0) hx hb dX4_together_20 rfl ?_
    refine lv_istore_n (lv' := [(3, .int (iI 0)), (2, .int v4), (0, .ref a0), (1, .int x1)]) hx hb dX4_together_21 rfl hl (by decide) rfl (fun ls hl => ?_)
    obtain ⟨ox5, ho5, hk5⟩ := orL_s hf
    have hT5 : ∀ r, ox5 = .inl r → some r = some res := fun r eo => (by have e := orL_1 hk5 eo; exact e)
    have hJ5 : ∀ o5, ox5 = .inr o5 → ∀ (H : Heap) (locs : List Loc) (ls : Array Slot), ep_W G ep_cl o3 s H locs → lv_has ls 4 [] → wX4_together p l e s m below meth c G h a0 x1 res 0 0 H locs (F0 m 50 ls []) := by
      intro o5 eo H locs ls hw hl
      have hf := orL_2 hk5 eo
      refine lv_bipush (v := iI (-4)) hx hb dX4_together_50 (by decide) ?_
      exact ep_retiW hx hb hr hlocks hw hf dX4_together_52
    have hL5 : ∀ (fu : Nat) (x3 : Int32), fX4_together_L22 o3 a0 x1 v4 fu x3 = some ox5 → ∀ (H : Heap) (locs : List Loc) (ls : Array Slot), ep_W G ep_cl o3 s H locs → lv_has ls 4 [(0, .ref a0), (1, .int x1), (2, .int v4), (3, .int x3)] → wX4_together p l e s m below meth c G h a0 x1 res 0 0 H locs (F0 m 22 ls []) := by
      intro fu
      induction fu with
      | zero => intro x3 ho5; cases ho5
      | succ fu ih5 =>
        intro x3 ho5 H locs ls hw hl
        rw [fX4_together_L22] at ho5
        refine lv_iload_n hx hb dX4_together_22 rfl (lv_at hl 3 rfl) ?_
        refine lv_bipush (v := iI 100) hx hb dX4_together_23 (by decide) ?_
        refine lv_icmp_ge (tgt := 50) hx hb dX4_together_25 (by decide) (fun c6 => ?_) (fun c6 => ?_)
        · have ho5 := oi_t ho5 c6
          exact hJ5 _ (Option.some.inj ho5).symm _ _ _ hw (lv_sub hl [] rfl)
        · have ho5 := oi_f ho5 c6
          refine lv_iload_n hx hb dX4_together_28 rfl (lv_at hl 2 rfl) ?_
          refine lv_if_eq (tgt := 50) hx hb dX4_together_29 (by decide) (fun c7 => ?_) (fun c7 => ?_)
          · have ho5 := oi_t ho5 c7
            exact hJ5 _ (Option.some.inj ho5).symm _ _ _ hw (lv_sub hl [] rfl)
          · have ho5 := oi_f ho5 c7
            refine lv_aload_n hx hb dX4_together_32 rfl (lv_at hl 0 rfl) ?_
            refine lv_iload_n hx hb dX4_together_33 rfl (lv_at hl 1 rfl) ?_
            refine lv_iload_n hx hb dX4_together_34 rfl (lv_at hl 3 rfl) ?_
            obtain ⟨v8, ev8, ho5⟩ := ob_s ho5
            refine ep_calli0 (va_runV (As := [.int x1, .int x3]) (rest := []) ⟨hx, hb, hml, hown, hts⟩ (metX4_heardIn l G o3 a0 x1 x3 ev8) (cwV 2 hts (lw_V q1479 q1481 qs71 q89 q1482) rfl rfl rfl hdX4_heardIn ⟨Nat.le_of_ble_eq_true rfl, Nat.le_of_ble_eq_true rfl⟩) (ep_preV hK hZ hw rfl (ckX4_heardIn ev8)) rfl rfl hl.1 rfl (lv_room (Nat.le_of_ble_eq_true rfl)) dX4_together_35 ⟨Nat.le_of_ble_eq_true rfl, Nat.le_of_ble_eq_true rfl⟩) hw (fun H locs hw => ?_)
            refine lv_iload_n hx hb dX4_together_38 rfl (lv_at hl 2 rfl) ?_
            refine lv_icmp_ne (tgt := 44) hx hb dX4_together_39 (by decide) (fun c9 => ?_) (fun c9 => ?_)
            · have ho5 := oi_f ho5 c9
              refine lv_iinc (v := (x3 + iI 1)) (lv' := [(3, .int (x3 + iI 1)), (0, .ref a0), (1, .int x1), (2, .int v4)]) hx hb dX4_together_44 hl (k := 3) rfl rfl (by decide) rfl (fun ls hl => ?_)
              refine lv_goto (tgt := 22) hx hb dX4_together_47 (by decide) ?_
              exact ih5 _ ho5 _ _ _ hw (lv_sub hl [1, 2, 3, 0] rfl)
            · have ho5 := oi_t ho5 c9
              refine lv_iload_n hx hb dX4_together_42 rfl (lv_at hl 3 rfl) ?_
              exact ep_retiW hx hb hr hlocks hw (hT5 _ (Option.some.inj ho5).symm) dX4_together_43
    exact hL5 FUEL _ ho5 _ _ _ hw (lv_sub hl [2, 3, 1, 0] rfl)
  · have hf := oi_t hf c2
    refine lv_iconst (v := iI (-1)) hx hb dX4_together_8 rfl ?_
    exact ep_retiW hx hb hr hlocks hw hf dX4_together_9
theorem hdX4_still : yX4_still.cls = RX4 ∧ yX4_still.cls ≠ "java/lang/invoke/MethodHandle" ∧ yX4_still.cls ≠ "java/lang/invoke/VarHandle" ∧ (parseMethodDescriptor yX4_still.desc).map (fun d => d.parameters.length) = some 1 := by decide +kernel
theorem ckX4_still {h : Hp} {a0 : Nat} {x1 : Int32} {res : Int32 × Hp} (hf : fX4_still h a0 x1 = some res) : ep_cls h a0 = some 4 := by
  unfold fX4_still at hf
  exact (oi_c hf).1
abbrev wX4_still (p : Program) (l : Launch) (e : Env) (s : State) (m : MethodId) (below : List Frame) (meth : Method) (c : Code) (G : EG) (h : Hp) (a0 : Nat) (x1 : Int32) (res : Int32 × Hp) (k9 n9 : Nat) (H : Heap) (locs : List Loc) (g : JFrame) : Prop := W p l e (headSpec (ws_ yX4_still cX4_still 4 (some .int)) ({ frames := 4, cells := 0, slots := 0, locals := 87 } : Room)).room s m ([.ref a0, .int x1] : List Value).toArray below meth c H locs k9 n9 (MQ below (ep_Qi G ep_cl res.2 res.1) ([.ref a0, .int x1] : List Value).toArray s 0 0 (ep_A G)) g
set_option maxHeartbeats 4000000 in
theorem metX4_still (l : Launch) (G : EG) (h : Hp) (a0 : Nat) (x1 : Int32) {res : Int32 × Hp} (hf : fX4_still h a0 x1 = some res) : Met l yX4_still (ws_ yX4_still cX4_still 4 (some .int)) ({ frames := 4, cells := 0, slots := 0, locals := 87 } : Room) (ep_Pc G ep_cl h [.ref a0, .int x1]) (ep_Qi G ep_cl res.2 res.1) 0 0 (ep_A G) := by
  refine Met.ofW (cc := cX4_still) (maxL := 4) (ret := (some .int)) (by decide) rfl ?_
  intro p e s m args below meth c s₁ B hml hv
  obtain ⟨rfl, hR, hK, hZ⟩ := hv
  have hx := B.exec
  have hb := B.bytes
  have hr := B.returns
  have hlocks := B.notSynchronized
  have hts := atoms_spec (ws := (ws_ yX4_still cX4_still 4 (some .int))) B.pre
  have hts : ∀ w ∈ lw_all, w.before _ s = true := fun w h => hts w (List.mem_cons_of_mem _ h)
  have hown : s.vm.findClass RX4 = some m.cls := findClass_of_methodNamed B.named
  have hw : ep_W G ep_cl h s s.heap [] := ⟨hR, va_S.rf⟩
  have hl := lv_entry ([.ref a0, .int x1]) (n := 4) (Nat.le_of_ble_eq_true rfl)
  rw [lg_entry_eq]
  generalize (lg_sl ([.ref a0, .int x1]) ++ List.replicate (4 - (lg_sl ([.ref a0, .int x1])).length) Slot.unset).toArray = ls at hl ⊢
  have hl : lv_has ls 4 [(0, .ref a0), (1, .int x1)] := hl
  unfold fX4_still at hf
  have hf := (oi_c hf).2
  show wX4_still p l e s m below meth c G h a0 x1 res 0 0 s.heap ([]) (F0 m 0 ls [])
  refine lv_aload_n hx hb dX4_still_0 rfl (lv_at hl 0 rfl) ?_
  refine lv_iload_n hx hb dX4_still_1 rfl (lv_at hl 1 rfl) ?_
  obtain ⟨v1, ev1, hf⟩ := ob_s hf
  refine ep_calli0 (va_runV (As := [.int x1]) (rest := []) ⟨hx, hb, hml, hown, hts⟩ (metX4_isPen l G h a0 x1 ev1) (cwV 1 hts (lw_V q1343 q1345 qs53 q89 q1346) rfl rfl rfl hdX4_isPen ⟨Nat.le_of_ble_eq_true rfl, Nat.le_of_ble_eq_true rfl⟩) (ep_preV hK hZ hw rfl (ckX4_isPen ev1)) rfl rfl hl.1 rfl (lv_room (Nat.le_of_ble_eq_true rfl)) dX4_still_2 ⟨Nat.le_of_ble_eq_true rfl, Nat.le_of_ble_eq_true rfl⟩) hw (fun H locs hw => ?_)
  refine lv_if_ne (tgt := 10) hx hb dX4_still_5 (by decide) (fun c2 => ?_) (fun c2 => ?_)
  · have hf := oi_f hf c2
    refine lv_aload_n hx hb dX4_still_10 rfl (lv_at hl 0 rfl) ?_
    obtain ⟨o3, eo3, hf⟩ := ob_s hf
    refine ep_callv0 (va_runV (As := []) (rest := []) ⟨hx, hb, hml, hown, hts⟩ (metX4_starts l G h a0 eo3) (cwV 0 hts (lw_V q1319 q1321 qs48 q89 q1322) rfl rfl rfl hdX4_starts ⟨Nat.le_of_ble_eq_true rfl, Nat.le_of_ble_eq_true rfl⟩) (ep_preV hK hZ hw rfl (ckX4_starts eo3)) rfl rfl hl.1 rfl (lv_room (Nat.le_of_ble_eq_true rfl)) dX4_still_11 ⟨Nat.le_of_ble_eq_true rfl, Nat.le_of_ble_eq_true rfl⟩) hw (fun H locs hw => ?_)
    refine lv_bipush (v := iI (-4)) hx hb dX4_still_14 (by decide) ?_
    refine lv_istore_n (lv' := [(2, .int (iI (-4))), (0, .ref a0), (1, .int x1)]) hx hb dX4_still_16 rfl hl (by decide) rfl (fun ls hl => ?_)
    refine lv_iconst (v := iI 0) hx hb dX4_still_17 rfl ?_
    refine lv_istore_n (lv' := [(3, .int (iI 0)), (2, .int (iI (-4))), (0, .ref a0), (1, .int x1)]) hx hb dX4_still_18 rfl hl (by decide) rfl (fun ls hl => ?_)
    obtain ⟨o4, ho4, hf⟩ := ob_s hf
    have hJ4 : ∀ (H : Heap) (locs : List Loc) (ls : Array Slot), ep_W G ep_cl o3 s H locs → lv_has ls 4 [(2, .int o4)] → wX4_still p l e s m below meth c G h a0 x1 res 0 0 H locs (F0 m 62 ls []) := by
      intro H locs ls hw hl
      refine lv_iload_n hx hb dX4_still_62 rfl (lv_at hl 0 rfl) ?_
      exact ep_retiW hx hb hr hlocks hw hf dX4_still_63
    have hL4 : ∀ (fu : Nat) (x2 : Int32) (x3 : Int32), fX4_still_L19 o3 a0 x1 fu x2 x3 = some o4 → ∀ (H : Heap) (locs : List Loc) (ls : Array Slot), ep_W G ep_cl o3 s H locs → lv_has ls 4 [(0, .ref a0), (1, .int x1), (2, .int x2), (3, .int x3)] → wX4_still p l e s m below meth c G h a0 x1 res 0 0 H locs (F0 m 19 ls []) := by
      intro fu
      induction fu with
      | zero => intro x2 x3 ho4; cases ho4
      | succ fu ih4 =>
        intro x2 x3 ho4 H locs ls hw hl
        rw [fX4_still_L19] at ho4
        refine lv_iload_n hx hb dX4_still_19 rfl (lv_at hl 3 rfl) ?_
        refine lv_aload_n hx hb dX4_still_20 rfl (lv_at hl 0 rfl) ?_
        obtain ⟨v5, ev5, ho4⟩ := ob_s ho4
        refine ep_get (C := RX4) (T := TX4) (N := 32) (ci := 4) hx hb hts in_X4 hown hK hw rfl 4 (by decide) q1143 (gI_f ev5) dX4_still_21 ?_
        refine lv_icmp_ge (tgt := 62) hx hb dX4_still_24 (by decide) (fun c6 => ?_) (fun c6 => ?_)
        · have ho4 := oi_t ho4 c6
          obtain rfl := Option.some.inj ho4
          exact hJ4 _ _ _ hw (lv_sub hl [2] rfl)
        · have ho4 := oi_f ho4 c6
          refine lv_aload_n hx hb dX4_still_27 rfl (lv_at hl 0 rfl) ?_
          refine lv_iload_n hx hb dX4_still_28 rfl (lv_at hl 3 rfl) ?_
          refine lv_iconst (v := iI 2) hx hb dX4_still_29 rfl ?_
          obtain ⟨v7, ev7, ho4⟩ := ob_s ho4
          refine ep_calli0 (va_runV (As := [.int x3, .int (iI 2)]) (rest := []) ⟨hx, hb, hml, hown, hts⟩ (metX4_of l G o3 a0 x3 (iI 2) ev7) (cwV 2 hts (lw_V q1327 q1329 qs50 q89 q1330) rfl rfl rfl hdX4_of ⟨Nat.le_of_ble_eq_true rfl, Nat.le_of_ble_eq_true rfl⟩) (ep_preV hK hZ hw rfl (ckX4_of ev7)) rfl rfl hl.1 rfl (lv_room (Nat.le_of_ble_eq_true rfl)) dX4_still_30 ⟨Nat.le_of_ble_eq_true rfl, Nat.le_of_ble_eq_true rfl⟩) hw (fun H locs hw => ?_)
          refine lv_iload_n hx hb dX4_still_33 rfl (lv_at hl 1 rfl) ?_
          obtain ⟨o8, ho8, ho4⟩ := ob_s ho4
          have hJ8 : ∀ (H : Heap) (locs : List Loc) (ls : Array Slot), ep_W G ep_cl o3 s H locs → lv_has ls 4 [(0, .ref a0), (1, .int x1), (3, .int x3)] → wX4_still p l e s m below meth c G h a0 x1 res 0 0 H locs (F0 m 55 ls [.int o8]) := by
            intro H locs ls hw hl
            refine lv_istore_n (lv' := [(2, .int o8), (0, .ref a0), (1, .int x1), (3, .int x3)]) hx hb dX4_still_55 rfl hl (by decide) rfl (fun ls hl => ?_)
            refine lv_iinc (v := (x3 + iI 1)) (lv' := [(3, .int (x3 + iI 1)), (2, .int o8), (0, .ref a0), (1, .int x1)]) hx hb dX4_still_56 hl (k := 3) rfl rfl (by decide) rfl (fun ls hl => ?_)
            refine lv_goto (tgt := 19) hx hb dX4_still_59 (by decide) ?_
            exact ih4 _ _ ho4 _ _ _ hw (lv_sub hl [2, 3, 1, 0] rfl)
          refine lv_icmp_ne (tgt := 54) hx hb dX4_still_34 (by decide) (fun c9 => ?_) (fun c9 => ?_)
          · have ho8 := oi_f ho8 c9
            refine lv_iload_n hx hb dX4_still_54 rfl (lv_at hl 2 rfl) ?_
            obtain rfl := Option.some.inj ho8
            exact hJ8 _ _ _ hw (lv_sub hl [0, 1, 3] rfl)
          · have ho8 := oi_t ho8 c9
            refine lv_aload_n hx hb dX4_still_37 rfl (lv_at hl 0 rfl) ?_
            refine lv_iload_n hx hb dX4_still_38 rfl (lv_at hl 3 rfl) ?_
            obtain ⟨v10, ev10, ho8⟩ := ob_s ho8
            refine ep_calli0 (va_runV (As := [.int x3]) (rest := []) ⟨hx, hb, hml, hown, hts⟩ (metX4_lastHeard l G o3 a0 x3 ev10) (cwV 1 hts (lw_V q1487 q1489 qs73 q89 q1490) rfl rfl rfl hdX4_lastHeard ⟨Nat.le_of_ble_eq_true rfl, Nat.le_of_ble_eq_true rfl⟩) (ep_preV hK hZ hw rfl (ckX4_lastHeard ev10)) rfl rfl hl.1 rfl (lv_room (Nat.le_of_ble_eq_true rfl)) dX4_still_39 ⟨Nat.le_of_ble_eq_true rfl, Nat.le_of_ble_eq_true rfl⟩) hw (fun H locs hw => ?_)
            refine lv_iload_n hx hb dX4_still_42 rfl (lv_at hl 2 rfl) ?_
            refine lv_icmp_le (tgt := 54) hx hb dX4_still_43 (by decide) (fun c11 => ?_) (fun c11 => ?_)
            · have ho8 := oi_t ho8 c11
              refine lv_iload_n hx hb dX4_still_54 rfl (lv_at hl 2 rfl) ?_
              obtain rfl := Option.some.inj ho8
              exact hJ8 _ _ _ hw (lv_sub hl [0, 1, 3] rfl)
            · have ho8 := oi_f ho8 c11
              refine lv_aload_n hx hb dX4_still_46 rfl (lv_at hl 0 rfl) ?_
              refine lv_iload_n hx hb dX4_still_47 rfl (lv_at hl 3 rfl) ?_
              obtain ⟨v12, ev12, ho8⟩ := ob_s ho8
              refine ep_calli0 (va_runV (As := [.int x3]) (rest := []) ⟨hx, hb, hml, hown, hts⟩ (metX4_lastHeard l G o3 a0 x3 ev12) (cwV 1 hts (lw_V q1487 q1489 qs73 q89 q1490) rfl rfl rfl hdX4_lastHeard ⟨Nat.le_of_ble_eq_true rfl, Nat.le_of_ble_eq_true rfl⟩) (ep_preV hK hZ hw rfl (ckX4_lastHeard ev12)) rfl rfl hl.1 rfl (lv_room (Nat.le_of_ble_eq_true rfl)) dX4_still_48 ⟨Nat.le_of_ble_eq_true rfl, Nat.le_of_ble_eq_true rfl⟩) hw (fun H locs hw => ?_)
              refine lv_goto (tgt := 55) hx hb dX4_still_51 (by decide) ?_
              obtain rfl := Option.some.inj ho8
              exact hJ8 _ _ _ hw (lv_sub hl [0, 1, 3] rfl)
    exact hL4 FUEL _ _ ho4 _ _ _ hw (lv_sub hl [2, 3, 1, 0] rfl)
  · have hf := oi_t hf c2
    refine lv_iconst (v := iI (-1)) hx hb dX4_still_8 rfl ?_
    exact ep_retiW hx hb hr hlocks hw hf dX4_still_9
theorem hdX4_meets : yX4_meets.cls = RX4 ∧ yX4_meets.cls ≠ "java/lang/invoke/MethodHandle" ∧ yX4_meets.cls ≠ "java/lang/invoke/VarHandle" ∧ (parseMethodDescriptor yX4_meets.desc).map (fun d => d.parameters.length) = some 1 := by decide +kernel
theorem ckX4_meets {h : Hp} {a0 : Nat} {x1 : Int32} {res : Int32 × Hp} (hf : fX4_meets h a0 x1 = some res) : ep_cls h a0 = some 4 := by
  unfold fX4_meets at hf
  exact (oi_c hf).1
abbrev wX4_meets (p : Program) (l : Launch) (e : Env) (s : State) (m : MethodId) (below : List Frame) (meth : Method) (c : Code) (G : EG) (h : Hp) (a0 : Nat) (x1 : Int32) (res : Int32 × Hp) (k9 n9 : Nat) (H : Heap) (locs : List Loc) (g : JFrame) : Prop := W p l e (headSpec (ws_ yX4_meets cX4_meets 4 (some .int)) ({ frames := 4, cells := 0, slots := 0, locals := 87 } : Room)).room s m ([.ref a0, .int x1] : List Value).toArray below meth c H locs k9 n9 (MQ below (ep_Qi G ep_cl res.2 res.1) ([.ref a0, .int x1] : List Value).toArray s 0 0 (ep_A G)) g
set_option maxHeartbeats 4000000 in
theorem metX4_meets (l : Launch) (G : EG) (h : Hp) (a0 : Nat) (x1 : Int32) {res : Int32 × Hp} (hf : fX4_meets h a0 x1 = some res) : Met l yX4_meets (ws_ yX4_meets cX4_meets 4 (some .int)) ({ frames := 4, cells := 0, slots := 0, locals := 87 } : Room) (ep_Pc G ep_cl h [.ref a0, .int x1]) (ep_Qi G ep_cl res.2 res.1) 0 0 (ep_A G) := by
  refine Met.ofW (cc := cX4_meets) (maxL := 4) (ret := (some .int)) (by decide) rfl ?_
  intro p e s m args below meth c s₁ B hml hv
  obtain ⟨rfl, hR, hK, hZ⟩ := hv
  have hx := B.exec
  have hb := B.bytes
  have hr := B.returns
  have hlocks := B.notSynchronized
  have hts := atoms_spec (ws := (ws_ yX4_meets cX4_meets 4 (some .int))) B.pre
  have hts : ∀ w ∈ lw_all, w.before _ s = true := fun w h => hts w (List.mem_cons_of_mem _ h)
  have hown : s.vm.findClass RX4 = some m.cls := findClass_of_methodNamed B.named
  have hw : ep_W G ep_cl h s s.heap [] := ⟨hR, va_S.rf⟩
  have hl := lv_entry ([.ref a0, .int x1]) (n := 4) (Nat.le_of_ble_eq_true rfl)
  rw [lg_entry_eq]
  generalize (lg_sl ([.ref a0, .int x1]) ++ List.replicate (4 - (lg_sl ([.ref a0, .int x1])).length) Slot.unset).toArray = ls at hl ⊢
  have hl : lv_has ls 4 [(0, .ref a0), (1, .int x1)] := hl
  unfold fX4_meets at hf
  have hf := (oi_c hf).2
  show wX4_meets p l e s m below meth c G h a0 x1 res 0 0 s.heap ([]) (F0 m 0 ls [])
  refine lv_aload_n hx hb dX4_meets_0 rfl (lv_at hl 0 rfl) ?_
  refine lv_iload_n hx hb dX4_meets_1 rfl (lv_at hl 1 rfl) ?_
  obtain ⟨v1, ev1, hf⟩ := ob_s hf
  refine ep_calli0 (va_runV (As := [.int x1]) (rest := []) ⟨hx, hb, hml, hown, hts⟩ (metX4_isEcho l G h a0 x1 ev1) (cwV 1 hts (lw_V q1352 q1354 qs54 q89 q1355) rfl rfl rfl hdX4_isEcho ⟨Nat.le_of_ble_eq_true rfl, Nat.le_of_ble_eq_true rfl⟩) (ep_preV hK hZ hw rfl (ckX4_isEcho ev1)) rfl rfl hl.1 rfl (lv_room (Nat.le_of_ble_eq_true rfl)) dX4_meets_2 ⟨Nat.le_of_ble_eq_true rfl, Nat.le_of_ble_eq_true rfl⟩) hw (fun H locs hw => ?_)
  refine lv_if_ne (tgt := 10) hx hb dX4_meets_5 (by decide) (fun c2 => ?_) (fun c2 => ?_)
  · have hf := oi_f hf c2
    refine lv_aload_n hx hb dX4_meets_10 rfl (lv_at hl 0 rfl) ?_
    obtain ⟨o3, eo3, hf⟩ := ob_s hf
    refine ep_callv0 (va_runV (As := []) (rest := []) ⟨hx, hb, hml, hown, hts⟩ (metX4_starts l G h a0 eo3) (cwV 0 hts (lw_V q1319 q1321 qs48 q89 q1322) rfl rfl rfl hdX4_starts ⟨Nat.le_of_ble_eq_true rfl, Nat.le_of_ble_eq_true rfl⟩) (ep_preV hK hZ hw rfl (ckX4_starts eo3)) rfl rfl hl.1 rfl (lv_room (Nat.le_of_ble_eq_true rfl)) dX4_meets_11 ⟨Nat.le_of_ble_eq_true rfl, Nat.le_of_ble_eq_true rfl⟩) hw (fun H locs hw => ?_)
    refine lv_iconst (v := iI 0) hx hb dX4_meets_14 rfl ?_
    refine lv_istore_n (lv' := [(2, .int (iI 0)), (0, .ref a0), (1, .int x1)]) hx hb dX4_meets_15 rfl hl (by decide) rfl (fun ls hl => ?_)
    refine lv_iconst (v := iI 0) hx hb dX4_meets_16 rfl ?_
    refine lv_istore_n (lv' := [(3, .int (iI 0)), (2, .int (iI 0)), (0, .ref a0), (1, .int x1)]) hx hb dX4_meets_17 rfl hl (by decide) rfl (fun ls hl => ?_)
    obtain ⟨o4, ho4, hf⟩ := ob_s hf
    have hJ4 : ∀ (H : Heap) (locs : List Loc) (ls : Array Slot), ep_W G ep_cl o3 s H locs → lv_has ls 4 [(2, .int o4)] → wX4_meets p l e s m below meth c G h a0 x1 res 0 0 H locs (F0 m 46 ls []) := by
      intro H locs ls hw hl
      refine lv_iload_n hx hb dX4_meets_46 rfl (lv_at hl 0 rfl) ?_
      exact ep_retiW hx hb hr hlocks hw hf dX4_meets_47
    have hL4 : ∀ (fu : Nat) (x2 : Int32) (x3 : Int32), fX4_meets_L18 o3 a0 x1 fu x2 x3 = some o4 → ∀ (H : Heap) (locs : List Loc) (ls : Array Slot), ep_W G ep_cl o3 s H locs → lv_has ls 4 [(0, .ref a0), (1, .int x1), (2, .int x2), (3, .int x3)] → wX4_meets p l e s m below meth c G h a0 x1 res 0 0 H locs (F0 m 18 ls []) := by
      intro fu
      induction fu with
      | zero => intro x2 x3 ho4; cases ho4
      | succ fu ih4 =>
        intro x2 x3 ho4 H locs ls hw hl
        rw [fX4_meets_L18] at ho4
        refine lv_iload_n hx hb dX4_meets_18 rfl (lv_at hl 3 rfl) ?_
        refine lv_aload_n hx hb dX4_meets_19 rfl (lv_at hl 0 rfl) ?_
        obtain ⟨v5, ev5, ho4⟩ := ob_s ho4
        refine ep_get (C := RX4) (T := TX4) (N := 32) (ci := 4) hx hb hts in_X4 hown hK hw rfl 5 (by decide) q1144 (gI_f ev5) dX4_meets_20 ?_
        refine lv_icmp_ge (tgt := 46) hx hb dX4_meets_23 (by decide) (fun c6 => ?_) (fun c6 => ?_)
        · have ho4 := oi_t ho4 c6
          obtain rfl := Option.some.inj ho4
          exact hJ4 _ _ _ hw (lv_sub hl [2] rfl)
        · have ho4 := oi_f ho4 c6
          refine lv_iload_n hx hb dX4_meets_26 rfl (lv_at hl 2 rfl) ?_
          refine lv_aload_n hx hb dX4_meets_27 rfl (lv_at hl 0 rfl) ?_
          refine lv_iload_n hx hb dX4_meets_28 rfl (lv_at hl 1 rfl) ?_
          refine lv_iload_n hx hb dX4_meets_29 rfl (lv_at hl 3 rfl) ?_
          obtain ⟨v7, ev7, ho4⟩ := ob_s ho4
          refine ep_calli0 (va_runV (As := [.int x1, .int x3]) (rest := [.int x2]) ⟨hx, hb, hml, hown, hts⟩ (metX4_doesMeet l G o3 a0 x1 x3 ev7) (cwV 2 hts (lw_V q1463 q1465 qs68 q89 q1466) rfl rfl rfl hdX4_doesMeet ⟨Nat.le_of_ble_eq_true rfl, Nat.le_of_ble_eq_true rfl⟩) (ep_preV hK hZ hw rfl (ckX4_doesMeet ev7)) rfl rfl hl.1 rfl (lv_room (Nat.le_of_ble_eq_true rfl)) dX4_meets_30 ⟨Nat.le_of_ble_eq_true rfl, Nat.le_of_ble_eq_true rfl⟩) hw (fun H locs hw => ?_)
          obtain ⟨v8, ev8, ho4⟩ := ob_s ho4
          refine ep_calli0 (va_runS (As := [.int v7]) (rest := [.int x2]) ⟨hx, hb, hml, hown, hts⟩ (metX4_flag l G o3 v7 ev8) (va_cwS 1 hts (lw_S q1308 q1309 q89 q1310) rfl rfl rfl hsX4_flag ⟨Nat.le_of_ble_eq_true rfl, Nat.le_of_ble_eq_true rfl⟩) (ep_preS hK hZ hw) rfl rfl hl.1 rfl (lv_room (Nat.le_of_ble_eq_true rfl)) dX4_meets_33 ⟨Nat.le_of_ble_eq_true rfl, Nat.le_of_ble_eq_true rfl⟩) hw (fun H locs hw => ?_)
          refine lv_iload_n hx hb dX4_meets_36 rfl (lv_at hl 3 rfl) ?_
          refine lv_ishl hx hb dX4_meets_37 ?_
          refine lv_ior hx hb dX4_meets_38 ?_
          refine lv_istore_n (lv' := [(2, .int (x2 ||| (v8 <<< (x3 &&& 31)))), (0, .ref a0), (1, .int x1), (3, .int x3)]) hx hb dX4_meets_39 rfl hl (by decide) rfl (fun ls hl => ?_)
          refine lv_iinc (v := (x3 + iI 1)) (lv' := [(3, .int (x3 + iI 1)), (2, .int (x2 ||| (v8 <<< (x3 &&& 31)))), (0, .ref a0), (1, .int x1)]) hx hb dX4_meets_40 hl (k := 3) rfl rfl (by decide) rfl (fun ls hl => ?_)
          refine lv_goto (tgt := 18) hx hb dX4_meets_43 (by decide) ?_
          exact ih4 _ _ ho4 _ _ _ hw (lv_sub hl [2, 3, 1, 0] rfl)
    exact hL4 FUEL _ _ ho4 _ _ _ hw (lv_sub hl [2, 3, 1, 0] rfl)
  · have hf := oi_t hf c2
    refine lv_iconst (v := iI (-1)) hx hb dX4_meets_8 rfl ?_
    exact ep_retiW hx hb hr hlocks hw hf dX4_meets_9
theorem hdX4_sell : yX4_sell.cls = RX4 ∧ yX4_sell.cls ≠ "java/lang/invoke/MethodHandle" ∧ yX4_sell.cls ≠ "java/lang/invoke/VarHandle" ∧ (parseMethodDescriptor yX4_sell.desc).map (fun d => d.parameters.length) = some 2 := by decide +kernel
theorem ckX4_sell {h : Hp} {a0 : Nat} {x1 : Int32} {x2 : Int32} {res : Int32 × Hp} (hf : fX4_sell h a0 x1 x2 = some res) : ep_cls h a0 = some 4 := by
  unfold fX4_sell at hf
  exact (oi_c hf).1
abbrev wX4_sell (p : Program) (l : Launch) (e : Env) (s : State) (m : MethodId) (below : List Frame) (meth : Method) (c : Code) (G : EG) (h : Hp) (a0 : Nat) (x1 : Int32) (x2 : Int32) (res : Int32 × Hp) (k9 n9 : Nat) (H : Heap) (locs : List Loc) (g : JFrame) : Prop := W p l e (headSpec (ws_ yX4_sell cX4_sell 3 (some .int)) ({ frames := 4, cells := 0, slots := 0, locals := 87 } : Room)).room s m ([.ref a0, .int x1, .int x2] : List Value).toArray below meth c H locs k9 n9 (MQ below (ep_Qi G ep_cl res.2 res.1) ([.ref a0, .int x1, .int x2] : List Value).toArray s 0 0 (ep_A G)) g
set_option maxHeartbeats 4000000 in
theorem metX4_sell (l : Launch) (G : EG) (h : Hp) (a0 : Nat) (x1 : Int32) (x2 : Int32) {res : Int32 × Hp} (hf : fX4_sell h a0 x1 x2 = some res) : Met l yX4_sell (ws_ yX4_sell cX4_sell 3 (some .int)) ({ frames := 4, cells := 0, slots := 0, locals := 87 } : Room) (ep_Pc G ep_cl h [.ref a0, .int x1, .int x2]) (ep_Qi G ep_cl res.2 res.1) 0 0 (ep_A G) := by
  refine Met.ofW (cc := cX4_sell) (maxL := 3) (ret := (some .int)) (by decide) rfl ?_
  intro p e s m args below meth c s₁ B hml hv
  obtain ⟨rfl, hR, hK, hZ⟩ := hv
  have hx := B.exec
  have hb := B.bytes
  have hr := B.returns
  have hlocks := B.notSynchronized
  have hts := atoms_spec (ws := (ws_ yX4_sell cX4_sell 3 (some .int))) B.pre
  have hts : ∀ w ∈ lw_all, w.before _ s = true := fun w h => hts w (List.mem_cons_of_mem _ h)
  have hown : s.vm.findClass RX4 = some m.cls := findClass_of_methodNamed B.named
  have hw : ep_W G ep_cl h s s.heap [] := ⟨hR, va_S.rf⟩
  have hl := lv_entry ([.ref a0, .int x1, .int x2]) (n := 3) (Nat.le_of_ble_eq_true rfl)
  rw [lg_entry_eq]
  generalize (lg_sl ([.ref a0, .int x1, .int x2]) ++ List.replicate (3 - (lg_sl ([.ref a0, .int x1, .int x2])).length) Slot.unset).toArray = ls at hl ⊢
  have hl : lv_has ls 3 [(0, .ref a0), (1, .int x1), (2, .int x2)] := hl
  unfold fX4_sell at hf
  have hf := (oi_c hf).2
  show wX4_sell p l e s m below meth c G h a0 x1 x2 res 0 0 s.heap ([]) (F0 m 0 ls [])
  refine lv_aload_n hx hb dX4_sell_0 rfl (lv_at hl 0 rfl) ?_
  refine lv_iload_n hx hb dX4_sell_1 rfl (lv_at hl 1 rfl) ?_
  obtain ⟨v1, ev1, hf⟩ := ob_s hf
  refine ep_calli0 (va_runV (As := [.int x1]) (rest := []) ⟨hx, hb, hml, hown, hts⟩ (metX4_isEcho l G h a0 x1 ev1) (cwV 1 hts (lw_V q1352 q1354 qs54 q89 q1355) rfl rfl rfl hdX4_isEcho ⟨Nat.le_of_ble_eq_true rfl, Nat.le_of_ble_eq_true rfl⟩) (ep_preV hK hZ hw rfl (ckX4_isEcho ev1)) rfl rfl hl.1 rfl (lv_room (Nat.le_of_ble_eq_true rfl)) dX4_sell_2 ⟨Nat.le_of_ble_eq_true rfl, Nat.le_of_ble_eq_true rfl⟩) hw (fun H locs hw => ?_)
  refine lv_if_eq (tgt := 16) hx hb dX4_sell_5 (by decide) (fun c2 => ?_) (fun c2 => ?_)
  · have hf := oi_t hf c2
    refine lv_iconst (v := iI (-1)) hx hb dX4_sell_16 rfl ?_
    exact ep_retiW hx hb hr hlocks hw hf dX4_sell_17
  · have hf := oi_f hf c2
    refine lv_aload_n hx hb dX4_sell_8 rfl (lv_at hl 0 rfl) ?_
    refine lv_iload_n hx hb dX4_sell_9 rfl (lv_at hl 2 rfl) ?_
    obtain ⟨v3, ev3, hf⟩ := ob_s hf
    refine ep_calli0 (va_runV (As := [.int x2]) (rest := []) ⟨hx, hb, hml, hown, hts⟩ (metX4_isOrder l G h a0 x2 ev3) (cwV 1 hts (lw_V q1380 q1382 qs59 q89 q1383) rfl rfl rfl hdX4_isOrder ⟨Nat.le_of_ble_eq_true rfl, Nat.le_of_ble_eq_true rfl⟩) (ep_preV hK hZ hw rfl (ckX4_isOrder ev3)) rfl rfl hl.1 rfl (lv_room (Nat.le_of_ble_eq_true rfl)) dX4_sell_10 ⟨Nat.le_of_ble_eq_true rfl, Nat.le_of_ble_eq_true rfl⟩) hw (fun H locs hw => ?_)
    refine lv_if_ne (tgt := 18) hx hb dX4_sell_13 (by decide) (fun c4 => ?_) (fun c4 => ?_)
    · have hf := oi_f hf c4
      refine lv_aload_n hx hb dX4_sell_18 rfl (lv_at hl 0 rfl) ?_
      obtain ⟨o5, eo5, hf⟩ := ob_s hf
      refine ep_callv0 (va_runV (As := []) (rest := []) ⟨hx, hb, hml, hown, hts⟩ (metX4_starts l G h a0 eo5) (cwV 0 hts (lw_V q1319 q1321 qs48 q89 q1322) rfl rfl rfl hdX4_starts ⟨Nat.le_of_ble_eq_true rfl, Nat.le_of_ble_eq_true rfl⟩) (ep_preV hK hZ hw rfl (ckX4_starts eo5)) rfl rfl hl.1 rfl (lv_room (Nat.le_of_ble_eq_true rfl)) dX4_sell_19 ⟨Nat.le_of_ble_eq_true rfl, Nat.le_of_ble_eq_true rfl⟩) hw (fun H locs hw => ?_)
      refine lv_aload_n hx hb dX4_sell_22 rfl (lv_at hl 0 rfl) ?_
      refine lv_iload_n hx hb dX4_sell_23 rfl (lv_at hl 1 rfl) ?_
      refine lv_iload_n hx hb dX4_sell_24 rfl (lv_at hl 2 rfl) ?_
      obtain ⟨v6, ev6, hf⟩ := ob_s hf
      refine ep_calli0 (va_runV (As := [.int x1, .int x2]) (rest := []) ⟨hx, hb, hml, hown, hts⟩ (metX4_doesMeet l G o5 a0 x1 x2 ev6) (cwV 2 hts (lw_V q1463 q1465 qs68 q89 q1466) rfl rfl rfl hdX4_doesMeet ⟨Nat.le_of_ble_eq_true rfl, Nat.le_of_ble_eq_true rfl⟩) (ep_preV hK hZ hw rfl (ckX4_doesMeet ev6)) rfl rfl hl.1 rfl (lv_room (Nat.le_of_ble_eq_true rfl)) dX4_sell_25 ⟨Nat.le_of_ble_eq_true rfl, Nat.le_of_ble_eq_true rfl⟩) hw (fun H locs hw => ?_)
      refine lv_if_ne (tgt := 34) hx hb dX4_sell_28 (by decide) (fun c7 => ?_) (fun c7 => ?_)
      · have hf := oi_f hf c7
        refine lv_aload_n hx hb dX4_sell_34 rfl (lv_at hl 0 rfl) ?_
        obtain ⟨r8, er8, hf⟩ := ob_s hf
        refine ep_get (C := RX4) (T := TX4) (N := 32) (ci := 4) hx hb hts in_X4 hown hK hw rfl 0 (by decide) q1139 (gR_f er8) dX4_sell_35 ?_
        refine lv_bipush (v := iI 8) hx hb dX4_sell_38 (by decide) ?_
        refine lv_bipush (v := iI 9) hx hb dX4_sell_40 (by decide) ?_
        refine lv_iload_n hx hb dX4_sell_42 rfl (lv_at hl 1 rfl) ?_
        refine lv_imul hx hb dX4_sell_43 ?_
        refine lv_iadd hx hb dX4_sell_44 ?_
        refine lv_iconst (v := iI 2) hx hb dX4_sell_45 rfl ?_
        refine lv_iadd hx hb dX4_sell_46 ?_
        refine lv_bipush (v := iI (-4)) hx hb dX4_sell_47 (by decide) ?_
        obtain ⟨h9, eh9, hf⟩ := ob_s hf
        refine ep_iast hx hb hK hw eh9 dX4_sell_49 (fun H locs hw => ?_)
        refine lv_aload_n hx hb dX4_sell_50 rfl (lv_at hl 0 rfl) ?_
        obtain ⟨r10, er10, hf⟩ := ob_s hf
        refine ep_get (C := RX4) (T := TX4) (N := 32) (ci := 4) hx hb hts in_X4 hown hK hw rfl 0 (by decide) q1139 (gR_f er10) dX4_sell_51 ?_
        refine lv_bipush (v := iI 53) hx hb dX4_sell_54 (by decide) ?_
        refine lv_dup2_11 hx hb dX4_sell_56 rfl rfl ?_
        obtain ⟨v11, ev11, hf⟩ := ob_s hf
        refine ep_iald hx hb hK hw ev11 dX4_sell_57 ?_
        refine lv_iconst (v := iI 1) hx hb dX4_sell_58 rfl ?_
        refine lv_iload_n hx hb dX4_sell_59 rfl (lv_at hl 2 rfl) ?_
        refine lv_ishl hx hb dX4_sell_60 ?_
        refine lv_ior hx hb dX4_sell_61 ?_
        obtain ⟨h12, eh12, hf⟩ := ob_s hf
        refine ep_iast hx hb hK hw eh12 dX4_sell_62 (fun H locs hw => ?_)
        refine lv_aload_n hx hb dX4_sell_63 rfl (lv_at hl 0 rfl) ?_
        obtain ⟨r13, er13, hf⟩ := ob_s hf
        refine ep_get (C := RX4) (T := TX4) (N := 32) (ci := 4) hx hb hts in_X4 hown hK hw rfl 0 (by decide) q1139 (gR_f er13) dX4_sell_64 ?_
        refine lv_bipush (v := iI 55) hx hb dX4_sell_67 (by decide) ?_
        refine lv_dup2_11 hx hb dX4_sell_69 rfl rfl ?_
        obtain ⟨v14, ev14, hf⟩ := ob_s hf
        refine ep_iald hx hb hK hw ev14 dX4_sell_70 ?_
        refine lv_aload_n hx hb dX4_sell_71 rfl (lv_at hl 0 rfl) ?_
        obtain ⟨r15, er15, hf⟩ := ob_s hf
        refine ep_get (C := RX4) (T := TX4) (N := 32) (ci := 4) hx hb hts in_X4 hown hK hw rfl 6 (by decide) q1145 (gR_f er15) dX4_sell_72 ?_
        refine lv_bipush (v := iI 8) hx hb dX4_sell_75 (by decide) ?_
        refine lv_iload_n hx hb dX4_sell_77 rfl (lv_at hl 2 rfl) ?_
        refine lv_imul hx hb dX4_sell_78 ?_
        refine lv_bipush (v := iI 7) hx hb dX4_sell_79 (by decide) ?_
        refine lv_iadd hx hb dX4_sell_81 ?_
        obtain ⟨v16, ev16, hf⟩ := ob_s hf
        refine ep_iald hx hb hK hw ev16 dX4_sell_82 ?_
        refine lv_iadd hx hb dX4_sell_83 ?_
        obtain ⟨h17, eh17, hf⟩ := ob_s hf
        refine ep_iast hx hb hK hw eh17 dX4_sell_84 (fun H locs hw => ?_)
        refine lv_aload_n hx hb dX4_sell_85 rfl (lv_at hl 0 rfl) ?_
        obtain ⟨r18, er18, hf⟩ := ob_s hf
        refine ep_get (C := RX4) (T := TX4) (N := 32) (ci := 4) hx hb hts in_X4 hown hK hw rfl 0 (by decide) q1139 (gR_f er18) dX4_sell_86 ?_
        refine lv_bipush (v := iI 55) hx hb dX4_sell_89 (by decide) ?_
        obtain ⟨v19, ev19, hf⟩ := ob_s hf
        refine ep_iald hx hb hK hw ev19 dX4_sell_91 ?_
        exact ep_retiW hx hb hr hlocks hw hf dX4_sell_92
      · have hf := oi_t hf c7
        refine lv_bipush (v := iI (-2)) hx hb dX4_sell_31 (by decide) ?_
        exact ep_retiW hx hb hr hlocks hw hf dX4_sell_33
    · have hf := oi_t hf c4
      refine lv_iconst (v := iI (-1)) hx hb dX4_sell_16 rfl ?_
      exact ep_retiW hx hb hr hlocks hw hf dX4_sell_17
theorem hdX4_findMeeting : yX4_findMeeting.cls = RX4 ∧ yX4_findMeeting.cls ≠ "java/lang/invoke/MethodHandle" ∧ yX4_findMeeting.cls ≠ "java/lang/invoke/VarHandle" ∧ (parseMethodDescriptor yX4_findMeeting.desc).map (fun d => d.parameters.length) = some 0 := by decide +kernel
theorem ckX4_findMeeting {h : Hp} {a0 : Nat} {res : Hp} (hf : fX4_findMeeting h a0 = some res) : ep_cls h a0 = some 4 := by
  unfold fX4_findMeeting at hf
  exact (oi_c hf).1
abbrev wX4_findMeeting (p : Program) (l : Launch) (e : Env) (s : State) (m : MethodId) (below : List Frame) (meth : Method) (c : Code) (G : EG) (h : Hp) (a0 : Nat) (res : Hp) (k9 n9 : Nat) (H : Heap) (locs : List Loc) (g : JFrame) : Prop := W p l e (headSpec (ws_ yX4_findMeeting cX4_findMeeting 3 none) ({ frames := 4, cells := 0, slots := 0, locals := 87 } : Room)).room s m ([.ref a0] : List Value).toArray below meth c H locs k9 n9 (MQ below (ep_Qv G ep_cl res) ([.ref a0] : List Value).toArray s 0 0 (ep_A G)) g
set_option maxHeartbeats 4000000 in
theorem metX4_findMeeting (l : Launch) (G : EG) (h : Hp) (a0 : Nat) {res : Hp} (hf : fX4_findMeeting h a0 = some res) : Met l yX4_findMeeting (ws_ yX4_findMeeting cX4_findMeeting 3 none) ({ frames := 4, cells := 0, slots := 0, locals := 87 } : Room) (ep_Pc G ep_cl h [.ref a0]) (ep_Qv G ep_cl res) 0 0 (ep_A G) := by
  refine Met.ofW (cc := cX4_findMeeting) (maxL := 3) (ret := none) (by decide) rfl ?_
  intro p e s m args below meth c s₁ B hml hv
  obtain ⟨rfl, hR, hK, hZ⟩ := hv
  have hx := B.exec
  have hb := B.bytes
  have hr := B.returns
  have hlocks := B.notSynchronized
  have hts := atoms_spec (ws := (ws_ yX4_findMeeting cX4_findMeeting 3 none)) B.pre
  have hts : ∀ w ∈ lw_all, w.before _ s = true := fun w h => hts w (List.mem_cons_of_mem _ h)
  have hown : s.vm.findClass RX4 = some m.cls := findClass_of_methodNamed B.named
  have hw : ep_W G ep_cl h s s.heap [] := ⟨hR, va_S.rf⟩
  have hl := lv_entry ([.ref a0]) (n := 3) (Nat.le_of_ble_eq_true rfl)
  rw [lg_entry_eq]
  generalize (lg_sl ([.ref a0]) ++ List.replicate (3 - (lg_sl ([.ref a0])).length) Slot.unset).toArray = ls at hl ⊢
  have hl : lv_has ls 3 [(0, .ref a0)] := hl
  unfold fX4_findMeeting at hf
  have hf := (oi_c hf).2
  show wX4_findMeeting p l e s m below meth c G h a0 res 0 0 s.heap ([]) (F0 m 0 ls [])
  refine lv_iconst (v := iI 0) hx hb dX4_findMeeting_0 rfl ?_
  refine lv_istore_n (lv' := [(1, .int (iI 0)), (0, .ref a0)]) hx hb dX4_findMeeting_1 rfl hl (by decide) rfl (fun ls hl => ?_)
  obtain ⟨o1, ho1, hf⟩ := ob_s hf
  have hJ1 : ∀ (H : Heap) (locs : List Loc) (ls : Array Slot), ep_W G ep_cl o1 s H locs → lv_has ls 3 [] → wX4_findMeeting p l e s m below meth c G h a0 res 0 0 H locs (F0 m 59 ls []) := by
    intro H locs ls hw hl
    exact ep_retvW hx hb hr hlocks hw hf dX4_findMeeting_59
  have hL1 : ∀ (fu : Nat) (h : Hp) (x1 : Int32), fX4_findMeeting_L2 a0 fu h x1 = some o1 → ∀ (H : Heap) (locs : List Loc) (ls : Array Slot), ep_W G ep_cl h s H locs → lv_has ls 3 [(0, .ref a0), (1, .int x1)] → wX4_findMeeting p l e s m below meth c G h a0 res 0 0 H locs (F0 m 2 ls []) := by
    intro fu
    induction fu with
    | zero => intro h x1 ho1; cases ho1
    | succ fu ih1 =>
      intro h x1 ho1 H locs ls hw hl
      rw [fX4_findMeeting_L2] at ho1
      refine lv_iload_n hx hb dX4_findMeeting_2 rfl (lv_at hl 1 rfl) ?_
      refine lv_aload_n hx hb dX4_findMeeting_3 rfl (lv_at hl 0 rfl) ?_
      obtain ⟨v2, ev2, ho1⟩ := ob_s ho1
      refine ep_get (C := RX4) (T := TX4) (N := 32) (ci := 4) hx hb hts in_X4 hown hK hw rfl 5 (by decide) q1144 (gI_f ev2) dX4_findMeeting_4 ?_
      refine lv_icmp_ge (tgt := 59) hx hb dX4_findMeeting_7 (by decide) (fun c3 => ?_) (fun c3 => ?_)
      · have ho1 := oi_t ho1 c3
        obtain rfl := Option.some.inj ho1
        exact hJ1 _ _ _ hw (lv_sub hl [] rfl)
      · have ho1 := oi_f ho1 c3
        refine lv_aload_n hx hb dX4_findMeeting_10 rfl (lv_at hl 0 rfl) ?_
        obtain ⟨r4, er4, ho1⟩ := ob_s ho1
        refine ep_get (C := RX4) (T := TX4) (N := 32) (ci := 4) hx hb hts in_X4 hown hK hw rfl 21 (by decide) q1160 (gR_f er4) dX4_findMeeting_11 ?_
        refine lv_iload_n hx hb dX4_findMeeting_14 rfl (lv_at hl 1 rfl) ?_
        refine lv_iconst (v := iI 0) hx hb dX4_findMeeting_15 rfl ?_
        obtain ⟨h5, eh5, ho1⟩ := ob_s ho1
        refine ep_iast hx hb hK hw eh5 dX4_findMeeting_16 (fun H locs hw => ?_)
        refine lv_iconst (v := iI 0) hx hb dX4_findMeeting_17 rfl ?_
        refine lv_istore_n (lv' := [(2, .int (iI 0)), (0, .ref a0), (1, .int x1)]) hx hb dX4_findMeeting_18 rfl hl (by decide) rfl (fun ls hl => ?_)
        obtain ⟨o6, ho6, ho1⟩ := ob_s ho1
        have hJ6 : ∀ (H : Heap) (locs : List Loc) (ls : Array Slot), ep_W G ep_cl o6 s H locs → lv_has ls 3 [(0, .ref a0), (1, .int x1)] → wX4_findMeeting p l e s m below meth c G h a0 res 0 0 H locs (F0 m 53 ls []) := by
          intro H locs ls hw hl
          refine lv_iinc (v := (x1 + iI 1)) (lv' := [(1, .int (x1 + iI 1)), (0, .ref a0)]) hx hb dX4_findMeeting_53 hl (k := 1) rfl rfl (by decide) rfl (fun ls hl => ?_)
          refine lv_goto (tgt := 2) hx hb dX4_findMeeting_56 (by decide) ?_
          exact ih1 _ _ ho1 _ _ _ hw (lv_sub hl [1, 0] rfl)
        have hL6 : ∀ (fu : Nat) (h : Hp) (x2 : Int32), fX4_findMeeting_L19 a0 x1 fu h x2 = some o6 → ∀ (H : Heap) (locs : List Loc) (ls : Array Slot), ep_W G ep_cl h s H locs → lv_has ls 3 [(0, .ref a0), (1, .int x1), (2, .int x2)] → wX4_findMeeting p l e s m below meth c G h a0 res 0 0 H locs (F0 m 19 ls []) := by
          intro fu
          induction fu with
          | zero => intro h x2 ho6; cases ho6
          | succ fu ih6 =>
            intro h x2 ho6 H locs ls hw hl
            rw [fX4_findMeeting_L19] at ho6
            refine lv_iload_n hx hb dX4_findMeeting_19 rfl (lv_at hl 2 rfl) ?_
            refine lv_aload_n hx hb dX4_findMeeting_20 rfl (lv_at hl 0 rfl) ?_
            obtain ⟨v7, ev7, ho6⟩ := ob_s ho6
            refine ep_get (C := RX4) (T := TX4) (N := 32) (ci := 4) hx hb hts in_X4 hown hK hw rfl 4 (by decide) q1143 (gI_f ev7) dX4_findMeeting_21 ?_
            refine lv_icmp_ge (tgt := 53) hx hb dX4_findMeeting_24 (by decide) (fun c8 => ?_) (fun c8 => ?_)
            · have ho6 := oi_t ho6 c8
              obtain rfl := Option.some.inj ho6
              exact hJ6 _ _ _ hw (lv_sub hl [0, 1] rfl)
            · have ho6 := oi_f ho6 c8
              refine lv_aload_n hx hb dX4_findMeeting_27 rfl (lv_at hl 0 rfl) ?_
              obtain ⟨r9, er9, ho6⟩ := ob_s ho6
              refine ep_get (C := RX4) (T := TX4) (N := 32) (ci := 4) hx hb hts in_X4 hown hK hw rfl 21 (by decide) q1160 (gR_f er9) dX4_findMeeting_28 ?_
              refine lv_iload_n hx hb dX4_findMeeting_31 rfl (lv_at hl 1 rfl) ?_
              refine lv_dup2_11 hx hb dX4_findMeeting_32 rfl rfl ?_
              obtain ⟨v10, ev10, ho6⟩ := ob_s ho6
              refine ep_iald hx hb hK hw ev10 dX4_findMeeting_33 ?_
              refine lv_aload_n hx hb dX4_findMeeting_34 rfl (lv_at hl 0 rfl) ?_
              refine lv_iload_n hx hb dX4_findMeeting_35 rfl (lv_at hl 2 rfl) ?_
              refine lv_iload_n hx hb dX4_findMeeting_36 rfl (lv_at hl 1 rfl) ?_
              obtain ⟨v11, ev11, ho6⟩ := ob_s ho6
              refine ep_calli0 (va_runV (As := [.int x2, .int x1]) (rest := [.int v10, .int x1, .ref r9]) ⟨hx, hb, hml, hown, hts⟩ (metX4_doesMeet l G h a0 x2 x1 ev11) (cwV 2 hts (lw_V q1463 q1465 qs68 q89 q1466) rfl rfl rfl hdX4_doesMeet ⟨Nat.le_of_ble_eq_true rfl, Nat.le_of_ble_eq_true rfl⟩) (ep_preV hK hZ hw rfl (ckX4_doesMeet ev11)) rfl rfl hl.1 rfl (lv_room (Nat.le_of_ble_eq_true rfl)) dX4_findMeeting_37 ⟨Nat.le_of_ble_eq_true rfl, Nat.le_of_ble_eq_true rfl⟩) hw (fun H locs hw => ?_)
              obtain ⟨v12, ev12, ho6⟩ := ob_s ho6
              refine ep_calli0 (va_runS (As := [.int v11]) (rest := [.int v10, .int x1, .ref r9]) ⟨hx, hb, hml, hown, hts⟩ (metX4_flag l G h v11 ev12) (va_cwS 1 hts (lw_S q1308 q1309 q89 q1310) rfl rfl rfl hsX4_flag ⟨Nat.le_of_ble_eq_true rfl, Nat.le_of_ble_eq_true rfl⟩) (ep_preS hK hZ hw) rfl rfl hl.1 rfl (lv_room (Nat.le_of_ble_eq_true rfl)) dX4_findMeeting_40 ⟨Nat.le_of_ble_eq_true rfl, Nat.le_of_ble_eq_true rfl⟩) hw (fun H locs hw => ?_)
              refine lv_iload_n hx hb dX4_findMeeting_43 rfl (lv_at hl 2 rfl) ?_
              refine lv_ishl hx hb dX4_findMeeting_44 ?_
              refine lv_ior hx hb dX4_findMeeting_45 ?_
              obtain ⟨h13, eh13, ho6⟩ := ob_s ho6
              refine ep_iast hx hb hK hw eh13 dX4_findMeeting_46 (fun H locs hw => ?_)
              refine lv_iinc (v := (x2 + iI 1)) (lv' := [(2, .int (x2 + iI 1)), (0, .ref a0), (1, .int x1)]) hx hb dX4_findMeeting_47 hl (k := 2) rfl rfl (by decide) rfl (fun ls hl => ?_)
              refine lv_goto (tgt := 19) hx hb dX4_findMeeting_50 (by decide) ?_
              exact ih6 _ _ ho6 _ _ _ hw (lv_sub hl [1, 2, 0] rfl)
        exact hL6 FUEL _ _ ho6 _ _ _ hw (lv_sub hl [1, 2, 0] rfl)
  exact hL1 FUEL _ _ ho1 _ _ _ hw (lv_sub hl [1, 0] rfl)
theorem hsX4_power : yX4_power.cls ≠ "java/lang/invoke/MethodHandle" ∧ yX4_power.cls ≠ "java/lang/invoke/VarHandle" ∧ (parseMethodDescriptor yX4_power.desc).map (fun d => d.parameters.length) = some 2 := by decide +kernel
abbrev wX4_power (p : Program) (l : Launch) (e : Env) (s : State) (m : MethodId) (below : List Frame) (meth : Method) (c : Code) (G : EG) (h : Hp) (x0 : Int32) (x1 : Int32) (res : Int32) (k9 n9 : Nat) (H : Heap) (locs : List Loc) (g : JFrame) : Prop := W p l e (headSpec (ws_ yX4_power cX4_power 4 (some .int)) ({ frames := 0, cells := 0, slots := 0, locals := 0 } : Room)).room s m ([.int x0, .int x1] : List Value).toArray below meth c H locs k9 n9 (MQ below (ep_Qi G ep_cl h res) ([.int x0, .int x1] : List Value).toArray s 0 0 (ep_A G)) g
set_option maxHeartbeats 4000000 in
theorem metX4_power (l : Launch) (G : EG) (h : Hp) (x0 : Int32) (x1 : Int32) {res : Int32} (hf : fX4_power x0 x1 = some res) : Met l yX4_power (ws_ yX4_power cX4_power 4 (some .int)) ({ frames := 0, cells := 0, slots := 0, locals := 0 } : Room) (ep_Pc G ep_cl h [.int x0, .int x1]) (ep_Qi G ep_cl h res) 0 0 (ep_A G) := by
  refine Met.ofW (cc := cX4_power) (maxL := 4) (ret := (some .int)) (by decide) rfl ?_
  intro p e s m args below meth c s₁ B hml hv
  obtain ⟨rfl, hR, hK, hZ⟩ := hv
  have hx := B.exec
  have hb := B.bytes
  have hr := B.returns
  have hlocks := B.notSynchronized
  have hts := atoms_spec (ws := (ws_ yX4_power cX4_power 4 (some .int))) B.pre
  have hts : ∀ w ∈ lw_all, w.before _ s = true := fun w h => hts w (List.mem_cons_of_mem _ h)
  have hown : s.vm.findClass RX4 = some m.cls := findClass_of_methodNamed B.named
  have hw : ep_W G ep_cl h s s.heap [] := ⟨hR, va_S.rf⟩
  have hl := lv_entry ([.int x0, .int x1]) (n := 4) (Nat.le_of_ble_eq_true rfl)
  rw [lg_entry_eq]
  generalize (lg_sl ([.int x0, .int x1]) ++ List.replicate (4 - (lg_sl ([.int x0, .int x1])).length) Slot.unset).toArray = ls at hl ⊢
  have hl : lv_has ls 4 [(0, .int x0), (1, .int x1)] := hl
  unfold fX4_power at hf
  show wX4_power p l e s m below meth c G h x0 x1 res 0 0 s.heap ([]) (F0 m 0 ls [])
  refine lv_iconst (v := iI 1) hx hb dX4_power_0 rfl ?_
  refine lv_istore_n (lv' := [(2, .int (iI 1)), (0, .int x0), (1, .int x1)]) hx hb dX4_power_1 rfl hl (by decide) rfl (fun ls hl => ?_)
  refine lv_iconst (v := iI 0) hx hb dX4_power_2 rfl ?_
  refine lv_istore_n (lv' := [(3, .int (iI 0)), (2, .int (iI 1)), (0, .int x0), (1, .int x1)]) hx hb dX4_power_3 rfl hl (by decide) rfl (fun ls hl => ?_)
  obtain ⟨o1, ho1, hf⟩ := ob_s hf
  have hJ1 : ∀ (H : Heap) (locs : List Loc) (ls : Array Slot), ep_W G ep_cl h s H locs → lv_has ls 4 [(2, .int o1)] → wX4_power p l e s m below meth c G h x0 x1 res 0 0 H locs (F0 m 19 ls []) := by
    intro H locs ls hw hl
    refine lv_iload_n hx hb dX4_power_19 rfl (lv_at hl 0 rfl) ?_
    exact ep_retiR hx hb hr hlocks hw hf dX4_power_20
  have hL1 : ∀ (fu : Nat) (x2 : Int32) (x3 : Int32), fX4_power_L4 x0 x1 fu x2 x3 = some o1 → ∀ (H : Heap) (locs : List Loc) (ls : Array Slot), ep_W G ep_cl h s H locs → lv_has ls 4 [(0, .int x0), (1, .int x1), (2, .int x2), (3, .int x3)] → wX4_power p l e s m below meth c G h x0 x1 res 0 0 H locs (F0 m 4 ls []) := by
    intro fu
    induction fu with
    | zero => intro x2 x3 ho1; cases ho1
    | succ fu ih1 =>
      intro x2 x3 ho1 H locs ls hw hl
      rw [fX4_power_L4] at ho1
      refine lv_iload_n hx hb dX4_power_4 rfl (lv_at hl 3 rfl) ?_
      refine lv_iload_n hx hb dX4_power_5 rfl (lv_at hl 1 rfl) ?_
      refine lv_icmp_ge (tgt := 19) hx hb dX4_power_6 (by decide) (fun c2 => ?_) (fun c2 => ?_)
      · have ho1 := oi_t ho1 c2
        obtain rfl := Option.some.inj ho1
        exact hJ1 _ _ _ hw (lv_sub hl [2] rfl)
      · have ho1 := oi_f ho1 c2
        refine lv_iload_n hx hb dX4_power_9 rfl (lv_at hl 2 rfl) ?_
        refine lv_iload_n hx hb dX4_power_10 rfl (lv_at hl 0 rfl) ?_
        refine lv_imul hx hb dX4_power_11 ?_
        refine lv_istore_n (lv' := [(2, .int (x2 * x0)), (0, .int x0), (1, .int x1), (3, .int x3)]) hx hb dX4_power_12 rfl hl (by decide) rfl (fun ls hl => ?_)
        refine lv_iinc (v := (x3 + iI 1)) (lv' := [(3, .int (x3 + iI 1)), (2, .int (x2 * x0)), (0, .int x0), (1, .int x1)]) hx hb dX4_power_13 hl (k := 3) rfl rfl (by decide) rfl (fun ls hl => ?_)
        refine lv_goto (tgt := 4) hx hb dX4_power_16 (by decide) ?_
        exact ih1 _ _ ho1 _ _ _ hw (lv_sub hl [2, 3, 1, 0] rfl)
  exact hL1 FUEL _ _ ho1 _ _ _ hw (lv_sub hl [2, 3, 1, 0] rfl)
theorem hdX4_earned : yX4_earned.cls = RX4 ∧ yX4_earned.cls ≠ "java/lang/invoke/MethodHandle" ∧ yX4_earned.cls ≠ "java/lang/invoke/VarHandle" ∧ (parseMethodDescriptor yX4_earned.desc).map (fun d => d.parameters.length) = some 1 := by decide +kernel
theorem ckX4_earned {h : Hp} {a0 : Nat} {x1 : Int32} {res : Int32} (hf : fX4_earned h a0 x1 = some res) : ep_cls h a0 = some 4 := by
  unfold fX4_earned at hf
  exact (oi_c hf).1
abbrev wX4_earned (p : Program) (l : Launch) (e : Env) (s : State) (m : MethodId) (below : List Frame) (meth : Method) (c : Code) (G : EG) (h : Hp) (a0 : Nat) (x1 : Int32) (res : Int32) (k9 n9 : Nat) (H : Heap) (locs : List Loc) (g : JFrame) : Prop := W p l e (headSpec (ws_ yX4_earned cX4_earned 7 (some .int)) ({ frames := 0, cells := 0, slots := 0, locals := 0 } : Room)).room s m ([.ref a0, .int x1] : List Value).toArray below meth c H locs k9 n9 (MQ below (ep_Qi G ep_cl h res) ([.ref a0, .int x1] : List Value).toArray s 0 0 (ep_A G)) g
set_option maxHeartbeats 4000000 in
theorem metX4_earned (l : Launch) (G : EG) (h : Hp) (a0 : Nat) (x1 : Int32) {res : Int32} (hf : fX4_earned h a0 x1 = some res) : Met l yX4_earned (ws_ yX4_earned cX4_earned 7 (some .int)) ({ frames := 0, cells := 0, slots := 0, locals := 0 } : Room) (ep_Pc G ep_cl h [.ref a0, .int x1]) (ep_Qi G ep_cl h res) 0 0 (ep_A G) := by
  refine Met.ofW (cc := cX4_earned) (maxL := 7) (ret := (some .int)) (by decide) rfl ?_
  intro p e s m args below meth c s₁ B hml hv
  obtain ⟨rfl, hR, hK, hZ⟩ := hv
  have hx := B.exec
  have hb := B.bytes
  have hr := B.returns
  have hlocks := B.notSynchronized
  have hts := atoms_spec (ws := (ws_ yX4_earned cX4_earned 7 (some .int))) B.pre
  have hts : ∀ w ∈ lw_all, w.before _ s = true := fun w h => hts w (List.mem_cons_of_mem _ h)
  have hown : s.vm.findClass RX4 = some m.cls := findClass_of_methodNamed B.named
  have hw : ep_W G ep_cl h s s.heap [] := ⟨hR, va_S.rf⟩
  have hl := lv_entry ([.ref a0, .int x1]) (n := 7) (Nat.le_of_ble_eq_true rfl)
  rw [lg_entry_eq]
  generalize (lg_sl ([.ref a0, .int x1]) ++ List.replicate (7 - (lg_sl ([.ref a0, .int x1])).length) Slot.unset).toArray = ls at hl ⊢
  have hl : lv_has ls 7 [(0, .ref a0), (1, .int x1)] := hl
  unfold fX4_earned at hf
  have hf := (oi_c hf).2
  show wX4_earned p l e s m below meth c G h a0 x1 res 0 0 s.heap ([]) (F0 m 0 ls [])
  refine lv_iload_n hx hb dX4_earned_0 rfl (lv_at hl 1 rfl) ?_
  refine lv_istore_n (lv' := [(2, .int x1), (0, .ref a0), (1, .int x1)]) hx hb dX4_earned_1 rfl hl (by decide) rfl (fun ls hl => ?_)
  refine lv_iconst (v := iI 0) hx hb dX4_earned_2 rfl ?_
  refine lv_istore_n (lv' := [(3, .int (iI 0)), (2, .int x1), (0, .ref a0), (1, .int x1)]) hx hb dX4_earned_3 rfl hl (by decide) rfl (fun ls hl => ?_)
  refine lv_iconst (v := iI 0) hx hb dX4_earned_4 rfl ?_
  refine lv_istore (lv' := [(4, .int (iI 0)), (3, .int (iI 0)), (2, .int x1), (0, .ref a0), (1, .int x1)]) hx hb dX4_earned_5 hl (by decide) rfl (fun ls hl => ?_)
  refine lv_aload_n hx hb dX4_earned_7 rfl (lv_at hl 3 rfl) ?_
  obtain ⟨v1, ev1, hf⟩ := ob_s hf
  refine ep_get (C := RX4) (T := TX4) (N := 32) (ci := 4) hx hb hts in_X4 hown hK hw rfl 5 (by decide) q1144 (gI_f ev1) dX4_earned_8 ?_
  refine lv_iconst (v := iI 1) hx hb dX4_earned_11 rfl ?_
  refine lv_isub hx hb dX4_earned_12 ?_
  refine lv_istore (lv' := [(5, .int (v1 - (iI 1))), (4, .int (iI 0)), (3, .int (iI 0)), (2, .int x1), (0, .ref a0), (1, .int x1)]) hx hb dX4_earned_13 hl (by decide) rfl (fun ls hl => ?_)
  obtain ⟨ox2, ho2, hk2⟩ := orL_s hf
  have hT2 : ∀ r, ox2 = .inl r → some r = some res := fun r eo => (by have e := orL_1 hk2 eo; exact e)
  have hJ2 : ∀ o2, ox2 = .inr o2 → ∀ (H : Heap) (locs : List Loc) (ls : Array Slot), ep_W G ep_cl h s H locs → lv_has ls 7 [(3, .int o2)] → wX4_earned p l e s m below meth c G h a0 x1 res 0 0 H locs (F0 m 98 ls []) := by
    intro o2 eo H locs ls hw hl
    have hf := orL_2 hk2 eo
    refine lv_iload_n hx hb dX4_earned_98 rfl (lv_at hl 0 rfl) ?_
    exact ep_retiR hx hb hr hlocks hw hf dX4_earned_99
  have hL2 : ∀ (fu : Nat) (x2 : Int32) (x3 : Int32) (x4 : Int32) (x5 : Int32), fX4_earned_L15 h a0 fu x2 x3 x4 x5 = some ox2 → ∀ (H : Heap) (locs : List Loc) (ls : Array Slot), ep_W G ep_cl h s H locs → lv_has ls 7 [(0, .ref a0), (2, .int x2), (3, .int x3), (4, .int x4), (5, .int x5)] → wX4_earned p l e s m below meth c G h a0 x1 res 0 0 H locs (F0 m 15 ls []) := by
    intro fu
    induction fu with
    | zero => intro x2 x3 x4 x5 ho2; cases ho2
    | succ fu ih2 =>
      intro x2 x3 x4 x5 ho2 H locs ls hw hl
      rw [fX4_earned_L15] at ho2
      refine lv_iload hx hb dX4_earned_15 (lv_at hl 4 rfl) ?_
      refine lv_if_lt (tgt := 98) hx hb dX4_earned_17 (by decide) (fun c3 => ?_) (fun c3 => ?_)
      · have ho2 := oi_t ho2 c3
        exact hJ2 _ (Option.some.inj ho2).symm _ _ _ hw (lv_sub hl [2] rfl)
      · have ho2 := oi_f ho2 c3
        refine lv_iload_n hx hb dX4_earned_20 rfl (lv_at hl 1 rfl) ?_
        refine lv_bipush (v := iI 6) hx hb dX4_earned_21 (by decide) ?_
        obtain ⟨v4, ev4, ho2⟩ := ob_s ho2
        refine ep_irem hx hb ev4 dX4_earned_23 ?_
        refine lv_iconst (v := iI 1) hx hb dX4_earned_24 rfl ?_
        refine lv_isub hx hb dX4_earned_25 ?_
        refine lv_istore (lv' := [(6, .int (v4 - (iI 1))), (0, .ref a0), (2, .int x2), (3, .int x3), (4, .int x4), (5, .int x5)]) hx hb dX4_earned_26 hl (by decide) rfl (fun ls hl => ?_)
        refine lv_iload_n hx hb dX4_earned_28 rfl (lv_at hl 2 rfl) ?_
        refine lv_bipush (v := iI 6) hx hb dX4_earned_29 (by decide) ?_
        obtain ⟨v5, ev5, ho2⟩ := ob_s ho2
        refine ep_idiv hx hb ev5 dX4_earned_31 ?_
        refine lv_istore_n (lv' := [(2, .int v5), (6, .int (v4 - (iI 1))), (0, .ref a0), (3, .int x3), (4, .int x4), (5, .int x5)]) hx hb dX4_earned_32 rfl hl (by decide) rfl (fun ls hl => ?_)
        refine lv_iload hx hb dX4_earned_33 (lv_at hl 1 rfl) ?_
        obtain ⟨ox6, ho6, hk6⟩ := orL_s ho2
        have hT6 : ∀ r, ox6 = .inl r → some r = some res := fun r eo => hT2 _ (Option.some.inj (show some (.inl r) = some ox2 from (by have e := orL_1 hk6 eo; exact e))).symm
        have hJ6 : ∀ o6, ox6 = .inr o6 → ∀ (H : Heap) (locs : List Loc) (ls : Array Slot), ep_W G ep_cl h s H locs → lv_has ls 7 [(0, .ref a0), (2, .int v5), (3, .int o6.1), (4, .int o6.2), (5, .int x5)] → wX4_earned p l e s m below meth c G h a0 x1 res 0 0 H locs (F0 m 92 ls []) := by
          intro o6 eo H locs ls hw hl
          have ho2 := orL_2 hk6 eo
          refine lv_iinc (v := (x5 + iI (-1))) (lv' := [(5, .int (x5 + iI (-1))), (0, .ref a0), (2, .int v5), (3, .int o6.1), (4, .int o6.2)]) hx hb dX4_earned_92 hl (k := 4) rfl rfl (by decide) rfl (fun ls hl => ?_)
          refine lv_goto (tgt := 15) hx hb dX4_earned_95 (by decide) ?_
          exact ih2 _ _ _ _ ho2 _ _ _ hw (lv_sub hl [1, 2, 3, 4, 0] rfl)
        refine lv_if_lt (tgt := 92) hx hb dX4_earned_35 (by decide) (fun c7 => ?_) (fun c7 => ?_)
        · have ho6 := oi_t ho6 c7
          exact hJ6 _ (Option.some.inj ho6).symm _ _ _ hw (lv_sub hl [2, 0, 3, 4, 5] rfl)
        · have ho6 := oi_f ho6 c7
          refine lv_aload_n hx hb dX4_earned_38 rfl (lv_at hl 2 rfl) ?_
          obtain ⟨r8, er8, ho6⟩ := ob_s ho6
          refine ep_get (C := RX4) (T := TX4) (N := 32) (ci := 4) hx hb hts in_X4 hown hK hw rfl 21 (by decide) q1160 (gR_f er8) dX4_earned_39 ?_
          refine lv_iload hx hb dX4_earned_42 (lv_at hl 5 rfl) ?_
          obtain ⟨v9, ev9, ho6⟩ := ob_s ho6
          refine ep_iald hx hb hK hw ev9 dX4_earned_44 ?_
          refine lv_iload hx hb dX4_earned_45 (lv_at hl 1 rfl) ?_
          refine lv_ishr hx hb dX4_earned_47 ?_
          refine lv_iconst (v := iI 1) hx hb dX4_earned_48 rfl ?_
          refine lv_iand hx hb dX4_earned_49 ?_
          refine lv_if_eq (tgt := 64) hx hb dX4_earned_50 (by decide) (fun c10 => ?_) (fun c10 => ?_)
          · have ho6 := oi_t ho6 c10
            refine lv_bipush (v := iI (-4)) hx hb dX4_earned_64 (by decide) ?_
            exact ep_retiR hx hb hr hlocks hw (hT6 _ (Option.some.inj ho6).symm) dX4_earned_66
          · have ho6 := oi_f ho6 c10
            refine lv_iload hx hb dX4_earned_53 (lv_at hl 4 rfl) ?_
            refine lv_iload hx hb dX4_earned_55 (lv_at hl 1 rfl) ?_
            refine lv_ishr hx hb dX4_earned_57 ?_
            refine lv_iconst (v := iI 1) hx hb dX4_earned_58 rfl ?_
            refine lv_iand hx hb dX4_earned_59 ?_
            refine lv_iconst (v := iI 1) hx hb dX4_earned_60 rfl ?_
            refine lv_icmp_ne (tgt := 67) hx hb dX4_earned_61 (by decide) (fun c11 => ?_) (fun c11 => ?_)
            · have ho6 := oi_f ho6 c11
              refine lv_iload hx hb dX4_earned_67 (lv_at hl 4 rfl) ?_
              refine lv_iconst (v := iI 1) hx hb dX4_earned_69 rfl ?_
              refine lv_iload hx hb dX4_earned_70 (lv_at hl 1 rfl) ?_
              refine lv_ishl hx hb dX4_earned_72 ?_
              refine lv_ior hx hb dX4_earned_73 ?_
              refine lv_istore (lv' := [(4, .int (x4 ||| ((iI 1) <<< ((v4 - (iI 1)) &&& 31)))), (2, .int v5), (6, .int (v4 - (iI 1))), (0, .ref a0), (3, .int x3), (5, .int x5)]) hx hb dX4_earned_74 hl (by decide) rfl (fun ls hl => ?_)
              refine lv_iload_n hx hb dX4_earned_76 rfl (lv_at hl 4 rfl) ?_
              refine lv_aload_n hx hb dX4_earned_77 rfl (lv_at hl 3 rfl) ?_
              obtain ⟨r12, er12, ho6⟩ := ob_s ho6
              refine ep_get (C := RX4) (T := TX4) (N := 32) (ci := 4) hx hb hts in_X4 hown hK hw rfl 6 (by decide) q1145 (gR_f er12) dX4_earned_78 ?_
              refine lv_bipush (v := iI 8) hx hb dX4_earned_81 (by decide) ?_
              refine lv_iload hx hb dX4_earned_83 (lv_at hl 5 rfl) ?_
              refine lv_imul hx hb dX4_earned_85 ?_
              refine lv_bipush (v := iI 7) hx hb dX4_earned_86 (by decide) ?_
              refine lv_iadd hx hb dX4_earned_88 ?_
              obtain ⟨v13, ev13, ho6⟩ := ob_s ho6
              refine ep_iald hx hb hK hw ev13 dX4_earned_89 ?_
              refine lv_iadd hx hb dX4_earned_90 ?_
              refine lv_istore_n (lv' := [(3, .int (x3 + v13)), (4, .int (x4 ||| ((iI 1) <<< ((v4 - (iI 1)) &&& 31)))), (2, .int v5), (6, .int (v4 - (iI 1))), (0, .ref a0), (5, .int x5)]) hx hb dX4_earned_91 rfl hl (by decide) rfl (fun ls hl => ?_)
              exact hJ6 _ (Option.some.inj ho6).symm _ _ _ hw (lv_sub hl [4, 2, 0, 1, 5] rfl)
            · have ho6 := oi_t ho6 c11
              refine lv_bipush (v := iI (-4)) hx hb dX4_earned_64 (by decide) ?_
              exact ep_retiR hx hb hr hlocks hw (hT6 _ (Option.some.inj ho6).symm) dX4_earned_66
  exact hL2 FUEL _ _ _ _ ho2 _ _ _ hw (lv_sub hl [4, 3, 2, 1, 0] rfl)
theorem hdX4_bestSale : yX4_bestSale.cls = RX4 ∧ yX4_bestSale.cls ≠ "java/lang/invoke/MethodHandle" ∧ yX4_bestSale.cls ≠ "java/lang/invoke/VarHandle" ∧ (parseMethodDescriptor yX4_bestSale.desc).map (fun d => d.parameters.length) = some 0 := by decide +kernel
theorem ckX4_bestSale {h : Hp} {a0 : Nat} {res : Int32 × Hp} (hf : fX4_bestSale h a0 = some res) : ep_cls h a0 = some 4 := by
  unfold fX4_bestSale at hf
  exact (oi_c hf).1
abbrev wX4_bestSale (p : Program) (l : Launch) (e : Env) (s : State) (m : MethodId) (below : List Frame) (meth : Method) (c : Code) (G : EG) (h : Hp) (a0 : Nat) (res : Int32 × Hp) (k9 n9 : Nat) (H : Heap) (locs : List Loc) (g : JFrame) : Prop := W p l e (headSpec (ws_ yX4_bestSale cX4_bestSale 4 (some .int)) ({ frames := 5, cells := 0, slots := 0, locals := 109 } : Room)).room s m ([.ref a0] : List Value).toArray below meth c H locs k9 n9 (MQ below (ep_Qi G ep_cl res.2 res.1) ([.ref a0] : List Value).toArray s 0 0 (ep_A G)) g
set_option maxHeartbeats 4000000 in
theorem metX4_bestSale (l : Launch) (G : EG) (h : Hp) (a0 : Nat) {res : Int32 × Hp} (hf : fX4_bestSale h a0 = some res) : Met l yX4_bestSale (ws_ yX4_bestSale cX4_bestSale 4 (some .int)) ({ frames := 5, cells := 0, slots := 0, locals := 109 } : Room) (ep_Pc G ep_cl h [.ref a0]) (ep_Qi G ep_cl res.2 res.1) 0 0 (ep_A G) := by
  refine Met.ofW (cc := cX4_bestSale) (maxL := 4) (ret := (some .int)) (by decide) rfl ?_
  intro p e s m args below meth c s₁ B hml hv
  obtain ⟨rfl, hR, hK, hZ⟩ := hv
  have hx := B.exec
  have hb := B.bytes
  have hr := B.returns
  have hlocks := B.notSynchronized
  have hts := atoms_spec (ws := (ws_ yX4_bestSale cX4_bestSale 4 (some .int))) B.pre
  have hts : ∀ w ∈ lw_all, w.before _ s = true := fun w h => hts w (List.mem_cons_of_mem _ h)
  have hown : s.vm.findClass RX4 = some m.cls := findClass_of_methodNamed B.named
  have hw : ep_W G ep_cl h s s.heap [] := ⟨hR, va_S.rf⟩
  have hl := lv_entry ([.ref a0]) (n := 4) (Nat.le_of_ble_eq_true rfl)
  rw [lg_entry_eq]
  generalize (lg_sl ([.ref a0]) ++ List.replicate (4 - (lg_sl ([.ref a0])).length) Slot.unset).toArray = ls at hl ⊢
  have hl : lv_has ls 4 [(0, .ref a0)] := hl
  unfold fX4_bestSale at hf
  have hf := (oi_c hf).2
  show wX4_bestSale p l e s m below meth c G h a0 res 0 0 s.heap ([]) (F0 m 0 ls [])
  refine lv_iconst (v := iI (-1)) hx hb dX4_bestSale_0 rfl ?_
  refine lv_istore_n (lv' := [(1, .int (iI (-1))), (0, .ref a0)]) hx hb dX4_bestSale_1 rfl hl (by decide) rfl (fun ls hl => ?_)
  refine lv_aload_n hx hb dX4_bestSale_2 rfl (lv_at hl 1 rfl) ?_
  obtain ⟨o1, eo1, hf⟩ := ob_s hf
  refine ep_callv0 (va_runV (As := []) (rest := []) ⟨hx, hb, hml, hown, hts⟩ (metX4_findMeeting l G h a0 eo1) (cwV 0 hts (lw_V q1515 q1517 qs75 q89 q1518) rfl rfl rfl hdX4_findMeeting ⟨Nat.le_of_ble_eq_true rfl, Nat.le_of_ble_eq_true rfl⟩) (ep_preV hK hZ hw rfl (ckX4_findMeeting eo1)) rfl rfl hl.1 rfl (lv_room (Nat.le_of_ble_eq_true rfl)) dX4_bestSale_3 ⟨Nat.le_of_ble_eq_true rfl, Nat.le_of_ble_eq_true rfl⟩) hw (fun H locs hw => ?_)
  refine lv_iconst (v := iI 0) hx hb dX4_bestSale_6 rfl ?_
  refine lv_istore_n (lv' := [(2, .int (iI 0)), (1, .int (iI (-1))), (0, .ref a0)]) hx hb dX4_bestSale_7 rfl hl (by decide) rfl (fun ls hl => ?_)
  obtain ⟨o2, ho2, hf⟩ := ob_s hf
  have hJ2 : ∀ (H : Heap) (locs : List Loc) (ls : Array Slot), ep_W G ep_cl o2.1 s H locs → lv_has ls 4 [(1, .int o2.2)] → wX4_bestSale p l e s m below meth c G h a0 res 0 0 H locs (F0 m 61 ls []) := by
    intro H locs ls hw hl
    refine lv_iload_n hx hb dX4_bestSale_61 rfl (lv_at hl 0 rfl) ?_
    exact ep_retiW hx hb hr hlocks hw hf dX4_bestSale_62
  have hL2 : ∀ (fu : Nat) (h : Hp) (x1 : Int32) (x2 : Int32), fX4_bestSale_L8 a0 fu h x1 x2 = some o2 → ∀ (H : Heap) (locs : List Loc) (ls : Array Slot), ep_W G ep_cl h s H locs → lv_has ls 4 [(0, .ref a0), (1, .int x1), (2, .int x2)] → wX4_bestSale p l e s m below meth c G h a0 res 0 0 H locs (F0 m 8 ls []) := by
    intro fu
    induction fu with
    | zero => intro h x1 x2 ho2; cases ho2
    | succ fu ih2 =>
      intro h x1 x2 ho2 H locs ls hw hl
      rw [fX4_bestSale_L8] at ho2
      refine lv_iload_n hx hb dX4_bestSale_8 rfl (lv_at hl 2 rfl) ?_
      refine lv_bipush (v := iI 6) hx hb dX4_bestSale_9 (by decide) ?_
      refine lv_aload_n hx hb dX4_bestSale_11 rfl (lv_at hl 0 rfl) ?_
      obtain ⟨v3, ev3, ho2⟩ := ob_s ho2
      refine ep_get (C := RX4) (T := TX4) (N := 32) (ci := 4) hx hb hts in_X4 hown hK hw rfl 5 (by decide) q1144 (gI_f ev3) dX4_bestSale_12 ?_
      obtain ⟨v4, ev4, ho2⟩ := ob_s ho2
      refine ep_calli0 (va_runS (As := [.int (iI 6), .int v3]) (rest := [.int x2]) ⟨hx, hb, hml, hown, hts⟩ (metX4_power l G h (iI 6) v3 ev4) (va_cwS 2 hts (lw_S q1519 q1520 q89 q1521) rfl rfl rfl hsX4_power ⟨Nat.le_of_ble_eq_true rfl, Nat.le_of_ble_eq_true rfl⟩) (ep_preS hK hZ hw) rfl rfl hl.1 rfl (lv_room (Nat.le_of_ble_eq_true rfl)) dX4_bestSale_15 ⟨Nat.le_of_ble_eq_true rfl, Nat.le_of_ble_eq_true rfl⟩) hw (fun H locs hw => ?_)
      refine lv_icmp_ge (tgt := 61) hx hb dX4_bestSale_18 (by decide) (fun c5 => ?_) (fun c5 => ?_)
      · have ho2 := oi_t ho2 c5
        obtain rfl := Option.some.inj ho2
        exact hJ2 _ _ _ hw (lv_sub hl [1] rfl)
      · have ho2 := oi_f ho2 c5
        refine lv_aload_n hx hb dX4_bestSale_21 rfl (lv_at hl 0 rfl) ?_
        refine lv_iload_n hx hb dX4_bestSale_22 rfl (lv_at hl 2 rfl) ?_
        obtain ⟨v6, ev6, ho2⟩ := ob_s ho2
        refine ep_calli0 (va_runV (As := [.int x2]) (rest := []) ⟨hx, hb, hml, hown, hts⟩ (metX4_earned l G h a0 x2 ev6) (cwV 1 hts (lw_V q1522 q1524 qs76 q89 q1525) rfl rfl rfl hdX4_earned ⟨Nat.le_of_ble_eq_true rfl, Nat.le_of_ble_eq_true rfl⟩) (ep_preV hK hZ hw rfl (ckX4_earned ev6)) rfl rfl hl.1 rfl (lv_room (Nat.le_of_ble_eq_true rfl)) dX4_bestSale_23 ⟨Nat.le_of_ble_eq_true rfl, Nat.le_of_ble_eq_true rfl⟩) hw (fun H locs hw => ?_)
        refine lv_istore_n (lv' := [(3, .int v6), (0, .ref a0), (1, .int x1), (2, .int x2)]) hx hb dX4_bestSale_26 rfl hl (by decide) rfl (fun ls hl => ?_)
        refine lv_aload_n hx hb dX4_bestSale_27 rfl (lv_at hl 1 rfl) ?_
        refine lv_iload_n hx hb dX4_bestSale_28 rfl (lv_at hl 0 rfl) ?_
        refine lv_iload_n hx hb dX4_bestSale_29 rfl (lv_at hl 2 rfl) ?_
        obtain ⟨o7, ho7, ho2⟩ := ob_s ho2
        have hJ7 : ∀ (H : Heap) (locs : List Loc) (ls : Array Slot), ep_W G ep_cl h s H locs → lv_has ls 4 [(0, .ref a0), (1, .int x1), (2, .int x2), (3, .int v6)] → wX4_bestSale p l e s m below meth c G h a0 res 0 0 H locs (F0 m 41 ls [.int o7, .ref a0]) := by
          intro H locs ls hw hl
          obtain ⟨h10, eh10, ho2⟩ := ob_s ho2
          refine ep_put (C := RX4) (T := TX4) (N := 32) (ci := 4) hx hb hts in_X4 tyX4 tyX4_ok nmX4 hown hK hw rfl (by decide) 22 (by decide) q1161 rfl rfl rfl eh10 dX4_bestSale_41 (fun H locs hw => ?_)
          refine lv_iload_n hx hb dX4_bestSale_44 rfl (lv_at hl 3 rfl) ?_
          refine lv_iload_n hx hb dX4_bestSale_45 rfl (lv_at hl 1 rfl) ?_
          have hJ11 : wX4_bestSale p l e s m below meth c G h a0 res 0 0 H locs (F0 m 54 ls [.int (if v6 ≤ x1 then x1 else v6)]) := by
            refine lv_istore_n (lv' := [(1, .int (if v6 ≤ x1 then x1 else v6)), (0, .ref a0), (2, .int x2), (3, .int v6)]) hx hb dX4_bestSale_54 rfl hl (by decide) rfl (fun ls hl => ?_)
            refine lv_iinc (v := (x2 + iI 1)) (lv' := [(2, .int (x2 + iI 1)), (1, .int (if v6 ≤ x1 then x1 else v6)), (0, .ref a0), (3, .int v6)]) hx hb dX4_bestSale_55 hl (k := 2) rfl rfl (by decide) rfl (fun ls hl => ?_)
            refine lv_goto (tgt := 8) hx hb dX4_bestSale_58 (by decide) ?_
            exact ih2 _ _ _ ho2 _ _ _ hw (lv_sub hl [2, 1, 0] rfl)
          refine lv_icmp_le (tgt := 53) hx hb dX4_bestSale_46 (by decide) (fun c12 => ?_) (fun c12 => ?_)
          · refine lv_iload_n hx hb dX4_bestSale_53 rfl (lv_at hl 1 rfl) ?_
            rw [if_pos c12] at hJ11
            exact hJ11
          · refine lv_iload_n hx hb dX4_bestSale_49 rfl (lv_at hl 3 rfl) ?_
            refine lv_goto (tgt := 54) hx hb dX4_bestSale_50 (by decide) ?_
            rw [if_neg c12] at hJ11
            exact hJ11
        refine lv_icmp_le (tgt := 37) hx hb dX4_bestSale_30 (by decide) (fun c8 => ?_) (fun c8 => ?_)
        · have ho7 := oi_t ho7 c8
          refine lv_aload_n hx hb dX4_bestSale_37 rfl (lv_at hl 1 rfl) ?_
          obtain ⟨v9, ev9, ho7⟩ := ob_s ho7
          refine ep_get (C := RX4) (T := TX4) (N := 32) (ci := 4) hx hb hts in_X4 hown hK hw rfl 22 (by decide) q1161 (gI_f ev9) dX4_bestSale_38 ?_
          obtain rfl := Option.some.inj ho7
          exact hJ7 _ _ _ hw (lv_sub hl [1, 2, 3, 0] rfl)
        · have ho7 := oi_f ho7 c8
          refine lv_iload_n hx hb dX4_bestSale_33 rfl (lv_at hl 3 rfl) ?_
          refine lv_goto (tgt := 41) hx hb dX4_bestSale_34 (by decide) ?_
          obtain rfl := Option.some.inj ho7
          exact hJ7 _ _ _ hw (lv_sub hl [1, 2, 3, 0] rfl)
  exact hL2 FUEL _ _ _ ho2 _ _ _ hw (lv_sub hl [2, 1, 0] rfl)
theorem hdX4_buyerOf : yX4_buyerOf.cls = RX4 ∧ yX4_buyerOf.cls ≠ "java/lang/invoke/MethodHandle" ∧ yX4_buyerOf.cls ≠ "java/lang/invoke/VarHandle" ∧ (parseMethodDescriptor yX4_buyerOf.desc).map (fun d => d.parameters.length) = some 2 := by decide +kernel
theorem ckX4_buyerOf {h : Hp} {a0 : Nat} {x1 : Int32} {x2 : Int32} {res : Int32} (hf : fX4_buyerOf h a0 x1 x2 = some res) : ep_cls h a0 = some 4 := by
  unfold fX4_buyerOf at hf
  exact (oi_c hf).1
abbrev wX4_buyerOf (p : Program) (l : Launch) (e : Env) (s : State) (m : MethodId) (below : List Frame) (meth : Method) (c : Code) (G : EG) (h : Hp) (a0 : Nat) (x1 : Int32) (x2 : Int32) (res : Int32) (k9 n9 : Nat) (H : Heap) (locs : List Loc) (g : JFrame) : Prop := W p l e (headSpec (ws_ yX4_buyerOf cX4_buyerOf 3 (some .int)) ({ frames := 1, cells := 0, slots := 0, locals := 23 } : Room)).room s m ([.ref a0, .int x1, .int x2] : List Value).toArray below meth c H locs k9 n9 (MQ below (ep_Qi G ep_cl h res) ([.ref a0, .int x1, .int x2] : List Value).toArray s 0 0 (ep_A G)) g
set_option maxHeartbeats 4000000 in
theorem metX4_buyerOf (l : Launch) (G : EG) (h : Hp) (a0 : Nat) (x1 : Int32) (x2 : Int32) {res : Int32} (hf : fX4_buyerOf h a0 x1 x2 = some res) : Met l yX4_buyerOf (ws_ yX4_buyerOf cX4_buyerOf 3 (some .int)) ({ frames := 1, cells := 0, slots := 0, locals := 23 } : Room) (ep_Pc G ep_cl h [.ref a0, .int x1, .int x2]) (ep_Qi G ep_cl h res) 0 0 (ep_A G) := by
  refine Met.ofW (cc := cX4_buyerOf) (maxL := 3) (ret := (some .int)) (by decide) rfl ?_
  intro p e s m args below meth c s₁ B hml hv
  obtain ⟨rfl, hR, hK, hZ⟩ := hv
  have hx := B.exec
  have hb := B.bytes
  have hr := B.returns
  have hlocks := B.notSynchronized
  have hts := atoms_spec (ws := (ws_ yX4_buyerOf cX4_buyerOf 3 (some .int))) B.pre
  have hts : ∀ w ∈ lw_all, w.before _ s = true := fun w h => hts w (List.mem_cons_of_mem _ h)
  have hown : s.vm.findClass RX4 = some m.cls := findClass_of_methodNamed B.named
  have hw : ep_W G ep_cl h s s.heap [] := ⟨hR, va_S.rf⟩
  have hl := lv_entry ([.ref a0, .int x1, .int x2]) (n := 3) (Nat.le_of_ble_eq_true rfl)
  rw [lg_entry_eq]
  generalize (lg_sl ([.ref a0, .int x1, .int x2]) ++ List.replicate (3 - (lg_sl ([.ref a0, .int x1, .int x2])).length) Slot.unset).toArray = ls at hl ⊢
  have hl : lv_has ls 3 [(0, .ref a0), (1, .int x1), (2, .int x2)] := hl
  unfold fX4_buyerOf at hf
  have hf := (oi_c hf).2
  show wX4_buyerOf p l e s m below meth c G h a0 x1 x2 res 0 0 s.heap ([]) (F0 m 0 ls [])
  refine lv_iload_n hx hb dX4_buyerOf_0 rfl (lv_at hl 1 rfl) ?_
  refine lv_bipush (v := iI 6) hx hb dX4_buyerOf_1 (by decide) ?_
  refine lv_aload_n hx hb dX4_buyerOf_3 rfl (lv_at hl 0 rfl) ?_
  obtain ⟨v1, ev1, hf⟩ := ob_s hf
  refine ep_get (C := RX4) (T := TX4) (N := 32) (ci := 4) hx hb hts in_X4 hown hK hw rfl 5 (by decide) q1144 (gI_f ev1) dX4_buyerOf_4 ?_
  refine lv_iconst (v := iI 1) hx hb dX4_buyerOf_7 rfl ?_
  refine lv_isub hx hb dX4_buyerOf_8 ?_
  refine lv_iload_n hx hb dX4_buyerOf_9 rfl (lv_at hl 2 rfl) ?_
  refine lv_isub hx hb dX4_buyerOf_10 ?_
  obtain ⟨v2, ev2, hf⟩ := ob_s hf
  refine ep_calli0 (va_runS (As := [.int (iI 6), .int ((v1 - (iI 1)) - x2)]) (rest := [.int x1]) ⟨hx, hb, hml, hown, hts⟩ (metX4_power l G h (iI 6) ((v1 - (iI 1)) - x2) ev2) (va_cwS 2 hts (lw_S q1519 q1520 q89 q1521) rfl rfl rfl hsX4_power ⟨Nat.le_of_ble_eq_true rfl, Nat.le_of_ble_eq_true rfl⟩) (ep_preS hK hZ hw) rfl rfl hl.1 rfl (lv_room (Nat.le_of_ble_eq_true rfl)) dX4_buyerOf_11 ⟨Nat.le_of_ble_eq_true rfl, Nat.le_of_ble_eq_true rfl⟩) hw (fun H locs hw => ?_)
  obtain ⟨v3, ev3, hf⟩ := ob_s hf
  refine ep_idiv hx hb ev3 dX4_buyerOf_14 ?_
  refine lv_bipush (v := iI 6) hx hb dX4_buyerOf_15 (by decide) ?_
  obtain ⟨v4, ev4, hf⟩ := ob_s hf
  refine ep_irem hx hb ev4 dX4_buyerOf_17 ?_
  refine lv_iconst (v := iI 1) hx hb dX4_buyerOf_18 rfl ?_
  refine lv_isub hx hb dX4_buyerOf_19 ?_
  exact ep_retiR hx hb hr hlocks hw hf dX4_buyerOf_20
theorem hdX4_sale : yX4_sale.cls = RX4 ∧ yX4_sale.cls ≠ "java/lang/invoke/MethodHandle" ∧ yX4_sale.cls ≠ "java/lang/invoke/VarHandle" ∧ (parseMethodDescriptor yX4_sale.desc).map (fun d => d.parameters.length) = some 1 := by decide +kernel
theorem ckX4_sale {h : Hp} {a0 : Nat} {x1 : Int32} {res : Int32 × Hp} (hf : fX4_sale h a0 x1 = some res) : ep_cls h a0 = some 4 := by
  unfold fX4_sale at hf
  exact (oi_c hf).1
abbrev wX4_sale (p : Program) (l : Launch) (e : Env) (s : State) (m : MethodId) (below : List Frame) (meth : Method) (c : Code) (G : EG) (h : Hp) (a0 : Nat) (x1 : Int32) (res : Int32 × Hp) (k9 n9 : Nat) (H : Heap) (locs : List Loc) (g : JFrame) : Prop := W p l e (headSpec (ws_ yX4_sale cX4_sale 4 (some .int)) ({ frames := 6, cells := 0, slots := 0, locals := 132 } : Room)).room s m ([.ref a0, .int x1] : List Value).toArray below meth c H locs k9 n9 (MQ below (ep_Qi G ep_cl res.2 res.1) ([.ref a0, .int x1] : List Value).toArray s 0 0 (ep_A G)) g
set_option maxHeartbeats 4000000 in
theorem metX4_sale (l : Launch) (G : EG) (h : Hp) (a0 : Nat) (x1 : Int32) {res : Int32 × Hp} (hf : fX4_sale h a0 x1 = some res) : Met l yX4_sale (ws_ yX4_sale cX4_sale 4 (some .int)) ({ frames := 6, cells := 0, slots := 0, locals := 132 } : Room) (ep_Pc G ep_cl h [.ref a0, .int x1]) (ep_Qi G ep_cl res.2 res.1) 0 0 (ep_A G) := by
  refine Met.ofW (cc := cX4_sale) (maxL := 4) (ret := (some .int)) (by decide) rfl ?_
  intro p e s m args below meth c s₁ B hml hv
  obtain ⟨rfl, hR, hK, hZ⟩ := hv
  have hx := B.exec
  have hb := B.bytes
  have hr := B.returns
  have hlocks := B.notSynchronized
  have hts := atoms_spec (ws := (ws_ yX4_sale cX4_sale 4 (some .int))) B.pre
  have hts : ∀ w ∈ lw_all, w.before _ s = true := fun w h => hts w (List.mem_cons_of_mem _ h)
  have hown : s.vm.findClass RX4 = some m.cls := findClass_of_methodNamed B.named
  have hw : ep_W G ep_cl h s s.heap [] := ⟨hR, va_S.rf⟩
  have hl := lv_entry ([.ref a0, .int x1]) (n := 4) (Nat.le_of_ble_eq_true rfl)
  rw [lg_entry_eq]
  generalize (lg_sl ([.ref a0, .int x1]) ++ List.replicate (4 - (lg_sl ([.ref a0, .int x1])).length) Slot.unset).toArray = ls at hl ⊢
  have hl : lv_has ls 4 [(0, .ref a0), (1, .int x1)] := hl
  unfold fX4_sale at hf
  have hf := (oi_c hf).2
  show wX4_sale p l e s m below meth c G h a0 x1 res 0 0 s.heap ([]) (F0 m 0 ls [])
  refine lv_iload_n hx hb dX4_sale_0 rfl (lv_at hl 1 rfl) ?_
  obtain ⟨ox1, ho1, hk1⟩ := orL_s hf
  have hT1 : ∀ r, ox1 = .inl r → some r = some res := fun r eo => (by have e := orL_1 hk1 eo; exact e)
  have hJ1 : ∀ o1, ox1 = .inr o1 → ∀ (H : Heap) (locs : List Loc) (ls : Array Slot), ep_W G ep_cl h s H locs → lv_has ls 4 [(0, .ref a0), (1, .int x1)] → wX4_sale p l e s m below meth c G h a0 x1 res 0 0 H locs (F0 m 17 ls []) := by
    intro o1 eo H locs ls hw hl
    have hf := orL_2 hk1 eo
    refine lv_aload_n hx hb dX4_sale_17 rfl (lv_at hl 0 rfl) ?_
    obtain ⟨o5, eo5, hf⟩ := ob_s hf
    refine ep_callv0 (va_runV (As := []) (rest := []) ⟨hx, hb, hml, hown, hts⟩ (metX4_starts l G h a0 eo5) (cwV 0 hts (lw_V q1319 q1321 qs48 q89 q1322) rfl rfl rfl hdX4_starts ⟨Nat.le_of_ble_eq_true rfl, Nat.le_of_ble_eq_true rfl⟩) (ep_preV hK hZ hw rfl (ckX4_starts eo5)) rfl rfl hl.1 rfl (lv_room (Nat.le_of_ble_eq_true rfl)) dX4_sale_18 ⟨Nat.le_of_ble_eq_true rfl, Nat.le_of_ble_eq_true rfl⟩) hw (fun H locs hw => ?_)
    refine lv_aload_n hx hb dX4_sale_21 rfl (lv_at hl 0 rfl) ?_
    obtain ⟨o6, eo6, hf⟩ := ob_s hf
    refine ep_calli0 (va_runV (As := []) (rest := []) ⟨hx, hb, hml, hown, hts⟩ (metX4_bestSale l G o5 a0 eo6) (cwV 0 hts (lw_V q1511 q1513 qs74 q89 q1514) rfl rfl rfl hdX4_bestSale ⟨Nat.le_of_ble_eq_true rfl, Nat.le_of_ble_eq_true rfl⟩) (ep_preV hK hZ hw rfl (ckX4_bestSale eo6)) rfl rfl hl.1 rfl (lv_room (Nat.le_of_ble_eq_true rfl)) dX4_sale_22 ⟨Nat.le_of_ble_eq_true rfl, Nat.le_of_ble_eq_true rfl⟩) hw (fun H locs hw => ?_)
    refine lv_istore_n (lv' := [(2, .int o6.1), (0, .ref a0), (1, .int x1)]) hx hb dX4_sale_25 rfl hl (by decide) rfl (fun ls hl => ?_)
    refine lv_iload_n hx hb dX4_sale_26 rfl (lv_at hl 2 rfl) ?_
    refine lv_if_ne (tgt := 32) hx hb dX4_sale_27 (by decide) (fun c7 => ?_) (fun c7 => ?_)
    · have hf := oi_f hf c7
      refine lv_aload_n hx hb dX4_sale_32 rfl (lv_at hl 1 rfl) ?_
      refine lv_aload_n hx hb dX4_sale_33 rfl (lv_at hl 1 rfl) ?_
      obtain ⟨v8, ev8, hf⟩ := ob_s hf
      refine ep_get (C := RX4) (T := TX4) (N := 32) (ci := 4) hx hb hts in_X4 hown hK hw rfl 22 (by decide) q1161 (gI_f ev8) dX4_sale_34 ?_
      refine lv_iload_n hx hb dX4_sale_37 rfl (lv_at hl 2 rfl) ?_
      refine lv_bipush (v := iI 10) hx hb dX4_sale_38 (by decide) ?_
      refine lv_isub hx hb dX4_sale_40 ?_
      obtain ⟨v9, ev9, hf⟩ := ob_s hf
      refine ep_calli0 (va_runV (As := [.int v8, .int (x1 - (iI 10))]) (rest := []) ⟨hx, hb, hml, hown, hts⟩ (metX4_buyerOf l G o6.2 a0 v8 (x1 - (iI 10)) ev9) (cwV 2 hts (lw_V q1526 q1528 qs77 q89 q1529) rfl rfl rfl hdX4_buyerOf ⟨Nat.le_of_ble_eq_true rfl, Nat.le_of_ble_eq_true rfl⟩) (ep_preV hK hZ hw rfl (ckX4_buyerOf ev9)) rfl rfl hl.1 rfl (lv_room (Nat.le_of_ble_eq_true rfl)) dX4_sale_41 ⟨Nat.le_of_ble_eq_true rfl, Nat.le_of_ble_eq_true rfl⟩) hw (fun H locs hw => ?_)
      refine lv_istore_n (lv' := [(3, .int v9), (2, .int o6.1), (0, .ref a0), (1, .int x1)]) hx hb dX4_sale_44 rfl hl (by decide) rfl (fun ls hl => ?_)
      refine lv_iload_n hx hb dX4_sale_45 rfl (lv_at hl 0 rfl) ?_
      refine lv_if_ge (tgt := 54) hx hb dX4_sale_46 (by decide) (fun c10 => ?_) (fun c10 => ?_)
      · have hf := oi_t hf c10
        refine lv_iload_n hx hb dX4_sale_54 rfl (lv_at hl 0 rfl) ?_
        exact ep_retiW hx hb hr hlocks hw hf dX4_sale_55
      · have hf := oi_f hf c10
        refine lv_bipush (v := iI (-4)) hx hb dX4_sale_49 (by decide) ?_
        refine lv_goto (tgt := 55) hx hb dX4_sale_51 (by decide) ?_
        exact ep_retiW hx hb hr hlocks hw hf dX4_sale_55
    · have hf := oi_t hf c7
      refine lv_iload_n hx hb dX4_sale_30 rfl (lv_at hl 0 rfl) ?_
      exact ep_retiW hx hb hr hlocks hw hf dX4_sale_31
  refine lv_if_eq (tgt := 17) hx hb dX4_sale_1 (by decide) (fun c2 => ?_) (fun c2 => ?_)
  · have ho1 := oi_t ho1 c2
    exact hJ1 _ (Option.some.inj ho1).symm _ _ _ hw (lv_sub hl [0, 1] rfl)
  · have ho1 := oi_f ho1 c2
    refine lv_aload_n hx hb dX4_sale_4 rfl (lv_at hl 0 rfl) ?_
    refine lv_iload_n hx hb dX4_sale_5 rfl (lv_at hl 1 rfl) ?_
    refine lv_bipush (v := iI 10) hx hb dX4_sale_6 (by decide) ?_
    refine lv_isub hx hb dX4_sale_8 ?_
    obtain ⟨v3, ev3, ho1⟩ := ob_s ho1
    refine ep_calli0 (va_runV (As := [.int (x1 - (iI 10))]) (rest := []) ⟨hx, hb, hml, hown, hts⟩ (metX4_isOrder l G h a0 (x1 - (iI 10)) ev3) (cwV 1 hts (lw_V q1380 q1382 qs59 q89 q1383) rfl rfl rfl hdX4_isOrder ⟨Nat.le_of_ble_eq_true rfl, Nat.le_of_ble_eq_true rfl⟩) (ep_preV hK hZ hw rfl (ckX4_isOrder ev3)) rfl rfl hl.1 rfl (lv_room (Nat.le_of_ble_eq_true rfl)) dX4_sale_9 ⟨Nat.le_of_ble_eq_true rfl, Nat.le_of_ble_eq_true rfl⟩) hw (fun H locs hw => ?_)
    refine lv_if_ne (tgt := 17) hx hb dX4_sale_12 (by decide) (fun c4 => ?_) (fun c4 => ?_)
    · have ho1 := oi_f ho1 c4
      exact hJ1 _ (Option.some.inj ho1).symm _ _ _ hw (lv_sub hl [0, 1] rfl)
    · have ho1 := oi_t ho1 c4
      refine lv_iconst (v := iI (-1)) hx hb dX4_sale_15 rfl ?_
      exact ep_retiW hx hb hr hlocks hw (hT1 _ (Option.some.inj ho1).symm) dX4_sale_16
theorem hdX4_droves : yX4_droves.cls = RX4 ∧ yX4_droves.cls ≠ "java/lang/invoke/MethodHandle" ∧ yX4_droves.cls ≠ "java/lang/invoke/VarHandle" ∧ (parseMethodDescriptor yX4_droves.desc).map (fun d => d.parameters.length) = some 0 := by decide +kernel
theorem ckX4_droves {h : Hp} {a0 : Nat} {res : Int32} (hf : fX4_droves h a0 = some res) : ep_cls h a0 = some 4 := by
  unfold fX4_droves at hf
  exact (oi_c hf).1
abbrev wX4_droves (p : Program) (l : Launch) (e : Env) (s : State) (m : MethodId) (below : List Frame) (meth : Method) (c : Code) (G : EG) (h : Hp) (a0 : Nat) (res : Int32) (k9 n9 : Nat) (H : Heap) (locs : List Loc) (g : JFrame) : Prop := W p l e (headSpec (ws_ yX4_droves cX4_droves 3 (some .int)) ({ frames := 0, cells := 0, slots := 0, locals := 0 } : Room)).room s m ([.ref a0] : List Value).toArray below meth c H locs k9 n9 (MQ below (ep_Qi G ep_cl h res) ([.ref a0] : List Value).toArray s 0 0 (ep_A G)) g
set_option maxHeartbeats 4000000 in
theorem metX4_droves (l : Launch) (G : EG) (h : Hp) (a0 : Nat) {res : Int32} (hf : fX4_droves h a0 = some res) : Met l yX4_droves (ws_ yX4_droves cX4_droves 3 (some .int)) ({ frames := 0, cells := 0, slots := 0, locals := 0 } : Room) (ep_Pc G ep_cl h [.ref a0]) (ep_Qi G ep_cl h res) 0 0 (ep_A G) := by
  refine Met.ofW (cc := cX4_droves) (maxL := 3) (ret := (some .int)) (by decide) rfl ?_
  intro p e s m args below meth c s₁ B hml hv
  obtain ⟨rfl, hR, hK, hZ⟩ := hv
  have hx := B.exec
  have hb := B.bytes
  have hr := B.returns
  have hlocks := B.notSynchronized
  have hts := atoms_spec (ws := (ws_ yX4_droves cX4_droves 3 (some .int))) B.pre
  have hts : ∀ w ∈ lw_all, w.before _ s = true := fun w h => hts w (List.mem_cons_of_mem _ h)
  have hown : s.vm.findClass RX4 = some m.cls := findClass_of_methodNamed B.named
  have hw : ep_W G ep_cl h s s.heap [] := ⟨hR, va_S.rf⟩
  have hl := lv_entry ([.ref a0]) (n := 3) (Nat.le_of_ble_eq_true rfl)
  rw [lg_entry_eq]
  generalize (lg_sl ([.ref a0]) ++ List.replicate (3 - (lg_sl ([.ref a0])).length) Slot.unset).toArray = ls at hl ⊢
  have hl : lv_has ls 3 [(0, .ref a0)] := hl
  unfold fX4_droves at hf
  have hf := (oi_c hf).2
  show wX4_droves p l e s m below meth c G h a0 res 0 0 s.heap ([]) (F0 m 0 ls [])
  refine lv_iconst (v := iI 1) hx hb dX4_droves_0 rfl ?_
  refine lv_istore_n (lv' := [(1, .int (iI 1)), (0, .ref a0)]) hx hb dX4_droves_1 rfl hl (by decide) rfl (fun ls hl => ?_)
  refine lv_iconst (v := iI 0) hx hb dX4_droves_2 rfl ?_
  refine lv_istore_n (lv' := [(2, .int (iI 0)), (1, .int (iI 1)), (0, .ref a0)]) hx hb dX4_droves_3 rfl hl (by decide) rfl (fun ls hl => ?_)
  obtain ⟨o1, ho1, hf⟩ := ob_s hf
  have hJ1 : ∀ (H : Heap) (locs : List Loc) (ls : Array Slot), ep_W G ep_cl h s H locs → lv_has ls 3 [(1, .int o1)] → wX4_droves p l e s m below meth c G h a0 res 0 0 H locs (F0 m 48 ls []) := by
    intro H locs ls hw hl
    refine lv_iload_n hx hb dX4_droves_48 rfl (lv_at hl 0 rfl) ?_
    exact ep_retiR hx hb hr hlocks hw hf dX4_droves_49
  have hL1 : ∀ (fu : Nat) (x1 : Int32) (x2 : Int32), fX4_droves_L4 h a0 fu x1 x2 = some o1 → ∀ (H : Heap) (locs : List Loc) (ls : Array Slot), ep_W G ep_cl h s H locs → lv_has ls 3 [(0, .ref a0), (1, .int x1), (2, .int x2)] → wX4_droves p l e s m below meth c G h a0 res 0 0 H locs (F0 m 4 ls []) := by
    intro fu
    induction fu with
    | zero => intro x1 x2 ho1; cases ho1
    | succ fu ih1 =>
      intro x1 x2 ho1 H locs ls hw hl
      rw [fX4_droves_L4] at ho1
      refine lv_iload_n hx hb dX4_droves_4 rfl (lv_at hl 2 rfl) ?_
      refine lv_aload_n hx hb dX4_droves_5 rfl (lv_at hl 0 rfl) ?_
      obtain ⟨v2, ev2, ho1⟩ := ob_s ho1
      refine ep_get (C := RX4) (T := TX4) (N := 32) (ci := 4) hx hb hts in_X4 hown hK hw rfl 4 (by decide) q1143 (gI_f ev2) dX4_droves_6 ?_
      refine lv_icmp_ge (tgt := 48) hx hb dX4_droves_9 (by decide) (fun c3 => ?_) (fun c3 => ?_)
      · have ho1 := oi_t ho1 c3
        obtain rfl := Option.some.inj ho1
        exact hJ1 _ _ _ hw (lv_sub hl [1] rfl)
      · have ho1 := oi_f ho1 c3
        refine lv_iload_n hx hb dX4_droves_12 rfl (lv_at hl 1 rfl) ?_
        refine lv_aload_n hx hb dX4_droves_13 rfl (lv_at hl 0 rfl) ?_
        obtain ⟨r4, er4, ho1⟩ := ob_s ho1
        refine ep_get (C := RX4) (T := TX4) (N := 32) (ci := 4) hx hb hts in_X4 hown hK hw rfl 0 (by decide) q1139 (gR_f er4) dX4_droves_14 ?_
        refine lv_bipush (v := iI 8) hx hb dX4_droves_17 (by decide) ?_
        refine lv_bipush (v := iI 9) hx hb dX4_droves_19 (by decide) ?_
        refine lv_iload_n hx hb dX4_droves_21 rfl (lv_at hl 2 rfl) ?_
        refine lv_imul hx hb dX4_droves_22 ?_
        refine lv_iadd hx hb dX4_droves_23 ?_
        refine lv_iconst (v := iI 2) hx hb dX4_droves_24 rfl ?_
        refine lv_iadd hx hb dX4_droves_25 ?_
        obtain ⟨v5, ev5, ho1⟩ := ob_s ho1
        refine ep_iald hx hb hK hw ev5 dX4_droves_26 ?_
        refine lv_bipush (v := iI (-4)) hx hb dX4_droves_27 (by decide) ?_
        obtain ⟨o6, ho6, ho1⟩ := ob_s ho1
        have hJ6 : ∀ (H : Heap) (locs : List Loc) (ls : Array Slot), ep_W G ep_cl h s H locs → lv_has ls 3 [(0, .ref a0), (2, .int x2)] → wX4_droves p l e s m below meth c G h a0 res 0 0 H locs (F0 m 40 ls [.int o6, .int x1]) := by
          intro H locs ls hw hl
          refine lv_imul hx hb dX4_droves_40 ?_
          refine lv_istore_n (lv' := [(1, .int (x1 * o6)), (0, .ref a0), (2, .int x2)]) hx hb dX4_droves_41 rfl hl (by decide) rfl (fun ls hl => ?_)
          refine lv_iinc (v := (x2 + iI 1)) (lv' := [(2, .int (x2 + iI 1)), (1, .int (x1 * o6)), (0, .ref a0)]) hx hb dX4_droves_42 hl (k := 2) rfl rfl (by decide) rfl (fun ls hl => ?_)
          refine lv_goto (tgt := 4) hx hb dX4_droves_45 (by decide) ?_
          exact ih1 _ _ ho1 _ _ _ hw (lv_sub hl [2, 1, 0] rfl)
        refine lv_icmp_ne (tgt := 36) hx hb dX4_droves_29 (by decide) (fun c7 => ?_) (fun c7 => ?_)
        · have ho6 := oi_f ho6 c7
          refine lv_aload_n hx hb dX4_droves_36 rfl (lv_at hl 0 rfl) ?_
          obtain ⟨v8, ev8, ho6⟩ := ob_s ho6
          refine ep_get (C := RX4) (T := TX4) (N := 32) (ci := 4) hx hb hts in_X4 hown hK hw rfl 3 (by decide) q1142 (gI_f ev8) dX4_droves_37 ?_
          obtain rfl := Option.some.inj ho6
          exact hJ6 _ _ _ hw (lv_sub hl [0, 2] rfl)
        · have ho6 := oi_t ho6 c7
          refine lv_iconst (v := iI 1) hx hb dX4_droves_32 rfl ?_
          refine lv_goto (tgt := 40) hx hb dX4_droves_33 (by decide) ?_
          obtain rfl := Option.some.inj ho6
          exact hJ6 _ _ _ hw (lv_sub hl [0, 2] rfl)
  exact hL1 FUEL _ _ ho1 _ _ _ hw (lv_sub hl [2, 1, 0] rfl)
theorem hdX4_drivesBy : yX4_drivesBy.cls = RX4 ∧ yX4_drivesBy.cls ≠ "java/lang/invoke/MethodHandle" ∧ yX4_drivesBy.cls ≠ "java/lang/invoke/VarHandle" ∧ (parseMethodDescriptor yX4_drivesBy.desc).map (fun d => d.parameters.length) = some 1 := by decide +kernel
theorem ckX4_drivesBy {h : Hp} {a0 : Nat} {x1 : Int32} {res : Int32 × Hp} (hf : fX4_drivesBy h a0 x1 = some res) : ep_cls h a0 = some 4 := by
  unfold fX4_drivesBy at hf
  exact (oi_c hf).1
abbrev wX4_drivesBy (p : Program) (l : Launch) (e : Env) (s : State) (m : MethodId) (below : List Frame) (meth : Method) (c : Code) (G : EG) (h : Hp) (a0 : Nat) (x1 : Int32) (res : Int32 × Hp) (k9 n9 : Nat) (H : Heap) (locs : List Loc) (g : JFrame) : Prop := W p l e (headSpec (ws_ yX4_drivesBy cX4_drivesBy 5 (some .boolean)) ({ frames := 2, cells := 0, slots := 0, locals := 45 } : Room)).room s m ([.ref a0, .int x1] : List Value).toArray below meth c H locs k9 n9 (MQ below (ep_Qi G ep_cl res.2 res.1) ([.ref a0, .int x1] : List Value).toArray s 0 0 (ep_A G)) g
set_option maxHeartbeats 4000000 in
theorem metX4_drivesBy (l : Launch) (G : EG) (h : Hp) (a0 : Nat) (x1 : Int32) {res : Int32 × Hp} (hf : fX4_drivesBy h a0 x1 = some res) : Met l yX4_drivesBy (ws_ yX4_drivesBy cX4_drivesBy 5 (some .boolean)) ({ frames := 2, cells := 0, slots := 0, locals := 45 } : Room) (ep_Pc G ep_cl h [.ref a0, .int x1]) (ep_Qi G ep_cl res.2 res.1) 0 0 (ep_A G) := by
  refine Met.ofW (cc := cX4_drivesBy) (maxL := 5) (ret := (some .boolean)) (by decide) rfl ?_
  intro p e s m args below meth c s₁ B hml hv
  obtain ⟨rfl, hR, hK, hZ⟩ := hv
  have hx := B.exec
  have hb := B.bytes
  have hr := B.returns
  have hlocks := B.notSynchronized
  have hts := atoms_spec (ws := (ws_ yX4_drivesBy cX4_drivesBy 5 (some .boolean))) B.pre
  have hts : ∀ w ∈ lw_all, w.before _ s = true := fun w h => hts w (List.mem_cons_of_mem _ h)
  have hown : s.vm.findClass RX4 = some m.cls := findClass_of_methodNamed B.named
  have hw : ep_W G ep_cl h s s.heap [] := ⟨hR, va_S.rf⟩
  have hl := lv_entry ([.ref a0, .int x1]) (n := 5) (Nat.le_of_ble_eq_true rfl)
  rw [lg_entry_eq]
  generalize (lg_sl ([.ref a0, .int x1]) ++ List.replicate (5 - (lg_sl ([.ref a0, .int x1])).length) Slot.unset).toArray = ls at hl ⊢
  have hl : lv_has ls 5 [(0, .ref a0), (1, .int x1)] := hl
  unfold fX4_drivesBy at hf
  have hf := (oi_c hf).2
  show wX4_drivesBy p l e s m below meth c G h a0 x1 res 0 0 s.heap ([]) (F0 m 0 ls [])
  refine lv_iload_n hx hb dX4_drivesBy_0 rfl (lv_at hl 1 rfl) ?_
  refine lv_istore_n (lv' := [(2, .int x1), (0, .ref a0), (1, .int x1)]) hx hb dX4_drivesBy_1 rfl hl (by decide) rfl (fun ls hl => ?_)
  refine lv_iconst (v := iI 1) hx hb dX4_drivesBy_2 rfl ?_
  refine lv_istore_n (lv' := [(3, .int (iI 1)), (2, .int x1), (0, .ref a0), (1, .int x1)]) hx hb dX4_drivesBy_3 rfl hl (by decide) rfl (fun ls hl => ?_)
  refine lv_aload_n hx hb dX4_drivesBy_4 rfl (lv_at hl 2 rfl) ?_
  obtain ⟨o1, eo1, hf⟩ := ob_s hf
  refine ep_callv0 (va_runV (As := []) (rest := []) ⟨hx, hb, hml, hown, hts⟩ (metX4_starts l G h a0 eo1) (cwV 0 hts (lw_V q1319 q1321 qs48 q89 q1322) rfl rfl rfl hdX4_starts ⟨Nat.le_of_ble_eq_true rfl, Nat.le_of_ble_eq_true rfl⟩) (ep_preV hK hZ hw rfl (ckX4_starts eo1)) rfl rfl hl.1 rfl (lv_room (Nat.le_of_ble_eq_true rfl)) dX4_drivesBy_5 ⟨Nat.le_of_ble_eq_true rfl, Nat.le_of_ble_eq_true rfl⟩) hw (fun H locs hw => ?_)
  refine lv_aload_n hx hb dX4_drivesBy_8 rfl (lv_at hl 2 rfl) ?_
  obtain ⟨v2, ev2, hf⟩ := ob_s hf
  refine ep_get (C := RX4) (T := TX4) (N := 32) (ci := 4) hx hb hts in_X4 hown hK hw rfl 4 (by decide) q1143 (gI_f ev2) dX4_drivesBy_9 ?_
  refine lv_iconst (v := iI 1) hx hb dX4_drivesBy_12 rfl ?_
  refine lv_isub hx hb dX4_drivesBy_13 ?_
  refine lv_istore (lv' := [(4, .int (v2 - (iI 1))), (3, .int (iI 1)), (2, .int x1), (0, .ref a0), (1, .int x1)]) hx hb dX4_drivesBy_14 hl (by decide) rfl (fun ls hl => ?_)
  obtain ⟨o3, ho3, hf⟩ := ob_s hf
  have hJ3 : ∀ (H : Heap) (locs : List Loc) (ls : Array Slot), ep_W G ep_cl o3 s H locs → lv_has ls 5 [(0, .ref a0), (3, .int (iI 1))] → wX4_drivesBy p l e s m below meth c G h a0 x1 res 0 0 H locs (F0 m 56 ls []) := by
    intro H locs ls hw hl
    refine lv_iconst (v := iI 0) hx hb dX4_drivesBy_56 rfl ?_
    refine lv_istore (lv' := [(4, .int (iI 0)), (0, .ref a0), (3, .int (iI 1))]) hx hb dX4_drivesBy_57 hl (by decide) rfl (fun ls hl => ?_)
    obtain ⟨o13, ho13, hf⟩ := ob_s hf
    have hJ13 : ∀ (H : Heap) (locs : List Loc) (ls : Array Slot), ep_W G ep_cl o3 s H locs → lv_has ls 5 [(3, .int o13)] → wX4_drivesBy p l e s m below meth c G h a0 x1 res 0 0 H locs (F0 m 97 ls []) := by
      intro H locs ls hw hl
      refine lv_iload_n hx hb dX4_drivesBy_97 rfl (lv_at hl 0 rfl) ?_
      obtain ⟨z, ez, hf⟩ := ob_s hf
      obtain ⟨hz, hn⟩ := ckZ_s ez
      rw [hz] at hf
      exact ep_retzW hx hb hr hn hlocks hw hf dX4_drivesBy_98
    have hL13 : ∀ (fu : Nat) (x3 : Int32) (x4 : Int32), fX4_drivesBy_L59 o3 a0 fu x3 x4 = some o13 → ∀ (H : Heap) (locs : List Loc) (ls : Array Slot), ep_W G ep_cl o3 s H locs → lv_has ls 5 [(0, .ref a0), (3, .int x3), (4, .int x4)] → wX4_drivesBy p l e s m below meth c G h a0 x1 res 0 0 H locs (F0 m 59 ls []) := by
      intro fu
      induction fu with
      | zero => intro x3 x4 ho13; cases ho13
      | succ fu ih13 =>
        intro x3 x4 ho13 H locs ls hw hl
        rw [fX4_drivesBy_L59] at ho13
        refine lv_iload hx hb dX4_drivesBy_59 (lv_at hl 2 rfl) ?_
        refine lv_aload_n hx hb dX4_drivesBy_61 rfl (lv_at hl 0 rfl) ?_
        obtain ⟨v14, ev14, ho13⟩ := ob_s ho13
        refine ep_get (C := RX4) (T := TX4) (N := 32) (ci := 4) hx hb hts in_X4 hown hK hw rfl 3 (by decide) q1142 (gI_f ev14) dX4_drivesBy_62 ?_
        refine lv_icmp_ge (tgt := 97) hx hb dX4_drivesBy_65 (by decide) (fun c15 => ?_) (fun c15 => ?_)
        · have ho13 := oi_t ho13 c15
          obtain rfl := Option.some.inj ho13
          exact hJ13 _ _ _ hw (lv_sub hl [1] rfl)
        · have ho13 := oi_f ho13 c15
          refine lv_iload_n hx hb dX4_drivesBy_68 rfl (lv_at hl 1 rfl) ?_
          obtain ⟨o16, ho16, ho13⟩ := ob_s ho13
          have hJ16 : ∀ (H : Heap) (locs : List Loc) (ls : Array Slot), ep_W G ep_cl o3 s H locs → lv_has ls 5 [(0, .ref a0), (4, .int x4)] → wX4_drivesBy p l e s m below meth c G h a0 x1 res 0 0 H locs (F0 m 90 ls [.int o16]) := by
            intro H locs ls hw hl
            refine lv_istore_n (lv' := [(3, .int o16), (0, .ref a0), (4, .int x4)]) hx hb dX4_drivesBy_90 rfl hl (by decide) rfl (fun ls hl => ?_)
            refine lv_iinc (v := (x4 + iI 1)) (lv' := [(4, .int (x4 + iI 1)), (3, .int o16), (0, .ref a0)]) hx hb dX4_drivesBy_91 hl (k := 2) rfl rfl (by decide) rfl (fun ls hl => ?_)
            refine lv_goto (tgt := 59) hx hb dX4_drivesBy_94 (by decide) ?_
            exact ih13 _ _ ho13 _ _ _ hw (lv_sub hl [2, 1, 0] rfl)
          refine lv_if_eq (tgt := 89) hx hb dX4_drivesBy_69 (by decide) (fun c17 => ?_) (fun c17 => ?_)
          · have ho16 := oi_t ho16 c17
            refine lv_iconst (v := iI 0) hx hb dX4_drivesBy_89 rfl ?_
            obtain rfl := Option.some.inj ho16
            exact hJ16 _ _ _ hw (lv_sub hl [0, 2] rfl)
          · have ho16 := oi_f ho16 c17
            refine lv_aload_n hx hb dX4_drivesBy_72 rfl (lv_at hl 0 rfl) ?_
            refine lv_iload hx hb dX4_drivesBy_73 (lv_at hl 2 rfl) ?_
            obtain ⟨v18, ev18, ho16⟩ := ob_s ho16
            refine ep_calli0 (va_runV (As := [.int x4]) (rest := []) ⟨hx, hb, hml, hown, hts⟩ (metX4_inPen l G o3 a0 x4 ev18) (cwV 1 hts (lw_V q1323 q1325 qs49 q89 q1326) rfl rfl rfl hdX4_inPen ⟨Nat.le_of_ble_eq_true rfl, Nat.le_of_ble_eq_true rfl⟩) (ep_preV hK hZ hw rfl (ckX4_inPen ev18)) rfl rfl hl.1 rfl (lv_room (Nat.le_of_ble_eq_true rfl)) dX4_drivesBy_75 ⟨Nat.le_of_ble_eq_true rfl, Nat.le_of_ble_eq_true rfl⟩) hw (fun H locs hw => ?_)
            obtain ⟨v19, ev19, ho16⟩ := ob_s ho16
            refine ep_calli0 (va_runS (As := [.int v18]) (rest := []) ⟨hx, hb, hml, hown, hts⟩ (metX4_bitsOf l G o3 v18 ev19) (va_cwS 1 hts (lw_S q1388 q1389 q89 q1390) rfl rfl rfl hsX4_bitsOf ⟨Nat.le_of_ble_eq_true rfl, Nat.le_of_ble_eq_true rfl⟩) (ep_preS hK hZ hw) rfl rfl hl.1 rfl (lv_room (Nat.le_of_ble_eq_true rfl)) dX4_drivesBy_78 ⟨Nat.le_of_ble_eq_true rfl, Nat.le_of_ble_eq_true rfl⟩) hw (fun H locs hw => ?_)
            refine lv_iconst (v := iI 3) hx hb dX4_drivesBy_81 rfl ?_
            refine lv_icmp_gt (tgt := 89) hx hb dX4_drivesBy_82 (by decide) (fun c20 => ?_) (fun c20 => ?_)
            · have ho16 := oi_t ho16 c20
              refine lv_iconst (v := iI 0) hx hb dX4_drivesBy_89 rfl ?_
              obtain rfl := Option.some.inj ho16
              exact hJ16 _ _ _ hw (lv_sub hl [0, 2] rfl)
            · have ho16 := oi_f ho16 c20
              refine lv_iconst (v := iI 1) hx hb dX4_drivesBy_85 rfl ?_
              refine lv_goto (tgt := 90) hx hb dX4_drivesBy_86 (by decide) ?_
              obtain rfl := Option.some.inj ho16
              exact hJ16 _ _ _ hw (lv_sub hl [0, 2] rfl)
    exact hL13 FUEL _ _ ho13 _ _ _ hw (lv_sub hl [1, 2, 0] rfl)
  have hL3 : ∀ (fu : Nat) (h : Hp) (x2 : Int32) (x4 : Int32), fX4_drivesBy_L16 a0 (iI 1) fu h x2 x4 = some o3 → ∀ (H : Heap) (locs : List Loc) (ls : Array Slot), ep_W G ep_cl h s H locs → lv_has ls 5 [(0, .ref a0), (2, .int x2), (3, .int (iI 1)), (4, .int x4)] → wX4_drivesBy p l e s m below meth c G h a0 x1 res 0 0 H locs (F0 m 16 ls []) := by
    intro fu
    induction fu with
    | zero => intro h x2 x4 ho3; cases ho3
    | succ fu ih3 =>
      intro h x2 x4 ho3 H locs ls hw hl
      rw [fX4_drivesBy_L16] at ho3
      refine lv_iload hx hb dX4_drivesBy_16 (lv_at hl 3 rfl) ?_
      refine lv_if_lt (tgt := 56) hx hb dX4_drivesBy_18 (by decide) (fun c4 => ?_) (fun c4 => ?_)
      · have ho3 := oi_t ho3 c4
        obtain rfl := Option.some.inj ho3
        exact hJ3 _ _ _ hw (lv_sub hl [0, 2] rfl)
      · have ho3 := oi_f ho3 c4
        refine lv_aload_n hx hb dX4_drivesBy_21 rfl (lv_at hl 0 rfl) ?_
        refine lv_iload hx hb dX4_drivesBy_22 (lv_at hl 3 rfl) ?_
        obtain ⟨v5, ev5, ho3⟩ := ob_s ho3
        refine ep_calli0 (va_runV (As := [.int x4]) (rest := []) ⟨hx, hb, hml, hown, hts⟩ (metX4_isSold l G h a0 x4 ev5) (cwV 1 hts (lw_V q1360 q1362 qs56 q89 q1363) rfl rfl rfl hdX4_isSold ⟨Nat.le_of_ble_eq_true rfl, Nat.le_of_ble_eq_true rfl⟩) (ep_preV hK hZ hw rfl (ckX4_isSold ev5)) rfl rfl hl.1 rfl (lv_room (Nat.le_of_ble_eq_true rfl)) dX4_drivesBy_24 ⟨Nat.le_of_ble_eq_true rfl, Nat.le_of_ble_eq_true rfl⟩) hw (fun H locs hw => ?_)
        obtain ⟨o6, ho6, ho3⟩ := ob_s ho3
        have hJ6 : ∀ (H : Heap) (locs : List Loc) (ls : Array Slot), ep_W G ep_cl o6.1 s H locs → lv_has ls 5 [(0, .ref a0), (2, .int o6.2), (3, .int (iI 1)), (4, .int x4)] → wX4_drivesBy p l e s m below meth c G h a0 x1 res 0 0 H locs (F0 m 50 ls []) := by
          intro H locs ls hw hl
          refine lv_iinc (v := (x4 + iI (-1))) (lv' := [(4, .int (x4 + iI (-1))), (0, .ref a0), (2, .int o6.2), (3, .int (iI 1))]) hx hb dX4_drivesBy_50 hl (k := 3) rfl rfl (by decide) rfl (fun ls hl => ?_)
          refine lv_goto (tgt := 16) hx hb dX4_drivesBy_53 (by decide) ?_
          exact ih3 _ _ _ ho3 _ _ _ hw (lv_sub hl [1, 2, 3, 0] rfl)
        refine lv_if_ne (tgt := 50) hx hb dX4_drivesBy_27 (by decide) (fun c7 => ?_) (fun c7 => ?_)
        · have ho6 := oi_f ho6 c7
          obtain rfl := Option.some.inj ho6
          exact hJ6 _ _ _ hw (lv_sub hl [0, 1, 2, 3] rfl)
        · have ho6 := oi_t ho6 c7
          refine lv_aload_n hx hb dX4_drivesBy_30 rfl (lv_at hl 0 rfl) ?_
          refine lv_iload hx hb dX4_drivesBy_31 (lv_at hl 3 rfl) ?_
          refine lv_iconst (v := iI 2) hx hb dX4_drivesBy_33 rfl ?_
          refine lv_iload_n hx hb dX4_drivesBy_34 rfl (lv_at hl 1 rfl) ?_
          refine lv_aload_n hx hb dX4_drivesBy_35 rfl (lv_at hl 0 rfl) ?_
          obtain ⟨v8, ev8, ho6⟩ := ob_s ho6
          refine ep_get (C := RX4) (T := TX4) (N := 32) (ci := 4) hx hb hts in_X4 hown hK hw rfl 3 (by decide) q1142 (gI_f ev8) dX4_drivesBy_36 ?_
          obtain ⟨v9, ev9, ho6⟩ := ob_s ho6
          refine ep_irem hx hb ev9 dX4_drivesBy_39 ?_
          obtain ⟨o10, eo10, ho6⟩ := ob_s ho6
          refine ep_callv0 (va_runV (As := [.int x4, .int (iI 2), .int v9]) (rest := []) ⟨hx, hb, hml, hown, hts⟩ (metX4_becomesOf l G h a0 x4 (iI 2) v9 eo10) (cwV 3 hts (lw_V q1418 q1420 qs62 q89 q1421) rfl rfl rfl hdX4_becomesOf ⟨Nat.le_of_ble_eq_true rfl, Nat.le_of_ble_eq_true rfl⟩) (ep_preV hK hZ hw rfl (ckX4_becomesOf eo10)) rfl rfl hl.1 rfl (lv_room (Nat.le_of_ble_eq_true rfl)) dX4_drivesBy_40 ⟨Nat.le_of_ble_eq_true rfl, Nat.le_of_ble_eq_true rfl⟩) hw (fun H locs hw => ?_)
          refine lv_iload_n hx hb dX4_drivesBy_43 rfl (lv_at hl 1 rfl) ?_
          refine lv_aload_n hx hb dX4_drivesBy_44 rfl (lv_at hl 0 rfl) ?_
          obtain ⟨v11, ev11, ho6⟩ := ob_s ho6
          refine ep_get (C := RX4) (T := TX4) (N := 32) (ci := 4) hx hb hts in_X4 hown hK hw rfl 3 (by decide) q1142 (gI_f ev11) dX4_drivesBy_45 ?_
          obtain ⟨v12, ev12, ho6⟩ := ob_s ho6
          refine ep_idiv hx hb ev12 dX4_drivesBy_48 ?_
          refine lv_istore_n (lv' := [(2, .int v12), (0, .ref a0), (3, .int (iI 1)), (4, .int x4)]) hx hb dX4_drivesBy_49 rfl hl (by decide) rfl (fun ls hl => ?_)
          obtain rfl := Option.some.inj ho6
          exact hJ6 _ _ _ hw (lv_sub hl [1, 0, 2, 3] rfl)
  exact hL3 FUEL _ _ _ ho3 _ _ _ hw (lv_sub hl [3, 2, 1, 0] rfl)
theorem hdX4_best : yX4_best.cls = RX4 ∧ yX4_best.cls ≠ "java/lang/invoke/MethodHandle" ∧ yX4_best.cls ≠ "java/lang/invoke/VarHandle" ∧ (parseMethodDescriptor yX4_best.desc).map (fun d => d.parameters.length) = some 2 := by decide +kernel
theorem ckX4_best {h : Hp} {a0 : Nat} {x1 : Int32} {x2 : Int32} {res : Int32 × Hp} (hf : fX4_best h a0 x1 x2 = some res) : ep_cls h a0 = some 4 := by
  unfold fX4_best at hf
  exact (oi_c hf).1
abbrev wX4_best (p : Program) (l : Launch) (e : Env) (s : State) (m : MethodId) (below : List Frame) (meth : Method) (c : Code) (G : EG) (h : Hp) (a0 : Nat) (x1 : Int32) (x2 : Int32) (res : Int32 × Hp) (k9 n9 : Nat) (H : Heap) (locs : List Loc) (g : JFrame) : Prop := W p l e (headSpec (ws_ yX4_best cX4_best 7 (some .int)) ({ frames := 6, cells := 0, slots := 0, locals := 132 } : Room)).room s m ([.ref a0, .int x1, .int x2] : List Value).toArray below meth c H locs k9 n9 (MQ below (ep_Qi G ep_cl res.2 res.1) ([.ref a0, .int x1, .int x2] : List Value).toArray s 0 0 (ep_A G)) g
set_option maxHeartbeats 4000000 in
theorem metX4_best (l : Launch) (G : EG) (h : Hp) (a0 : Nat) (x1 : Int32) (x2 : Int32) {res : Int32 × Hp} (hf : fX4_best h a0 x1 x2 = some res) : Met l yX4_best (ws_ yX4_best cX4_best 7 (some .int)) ({ frames := 6, cells := 0, slots := 0, locals := 132 } : Room) (ep_Pc G ep_cl h [.ref a0, .int x1, .int x2]) (ep_Qi G ep_cl res.2 res.1) 0 0 (ep_A G) := by
  refine Met.ofW (cc := cX4_best) (maxL := 7) (ret := (some .int)) (by decide) rfl ?_
  intro p e s m args below meth c s₁ B hml hv
  obtain ⟨rfl, hR, hK, hZ⟩ := hv
  have hx := B.exec
  have hb := B.bytes
  have hr := B.returns
  have hlocks := B.notSynchronized
  have hts := atoms_spec (ws := (ws_ yX4_best cX4_best 7 (some .int))) B.pre
  have hts : ∀ w ∈ lw_all, w.before _ s = true := fun w h => hts w (List.mem_cons_of_mem _ h)
  have hown : s.vm.findClass RX4 = some m.cls := findClass_of_methodNamed B.named
  have hw : ep_W G ep_cl h s s.heap [] := ⟨hR, va_S.rf⟩
  have hl := lv_entry ([.ref a0, .int x1, .int x2]) (n := 7) (Nat.le_of_ble_eq_true rfl)
  rw [lg_entry_eq]
  generalize (lg_sl ([.ref a0, .int x1, .int x2]) ++ List.replicate (7 - (lg_sl ([.ref a0, .int x1, .int x2])).length) Slot.unset).toArray = ls at hl ⊢
  have hl : lv_has ls 7 [(0, .ref a0), (1, .int x1), (2, .int x2)] := hl
  unfold fX4_best at hf
  have hf := (oi_c hf).2
  show wX4_best p l e s m below meth c G h a0 x1 x2 res 0 0 s.heap ([]) (F0 m 0 ls [])
  refine lv_iload_n hx hb dX4_best_0 rfl (lv_at hl 1 rfl) ?_
  refine lv_i2l (v := x1.toInt64) hx hb dX4_best_1 rfl ?_
  refine lv_lconst (v := lI 0) hx hb dX4_best_2 (by decide) ?_
  refine lv_ldc2 (v := (8 : Int64)) hx hb hown (hts _ q1534) dX4_best_3 ?_
  obtain ⟨v1, ev1, hf⟩ := ob_s hf
  refine ep_calli0 (va_runS (As := [.long x1.toInt64, .long (lI 0), .long (8 : Int64)]) (rest := []) ⟨hx, hb, hml, hown, hts⟩ (metX4_in l G h x1.toInt64 (lI 0) (8 : Int64) ev1) (va_cwS 3 hts (lw_S q1242 q1243 q89 q1244) rfl rfl rfl hsX4_in ⟨Nat.le_of_ble_eq_true rfl, Nat.le_of_ble_eq_true rfl⟩) (ep_preS hK hZ hw) rfl rfl hl.1 rfl (lv_room (Nat.le_of_ble_eq_true rfl)) dX4_best_6 ⟨Nat.le_of_ble_eq_true rfl, Nat.le_of_ble_eq_true rfl⟩) hw (fun H locs hw => ?_)
  refine lv_if_eq (tgt := 27) hx hb dX4_best_9 (by decide) (fun c2 => ?_) (fun c2 => ?_)
  · have hf := oi_t hf c2
    refine lv_iconst (v := iI (-1)) hx hb dX4_best_27 rfl ?_
    exact ep_retiW hx hb hr hlocks hw hf dX4_best_28
  · have hf := oi_f hf c2
    refine lv_iload_n hx hb dX4_best_12 rfl (lv_at hl 2 rfl) ?_
    obtain ⟨ox3, ho3, hk3⟩ := orL_s hf
    have hT3 : ∀ r, ox3 = .inl r → some r = some res := fun r eo => (by have e := orL_1 hk3 eo; exact e)
    have hJ3 : ∀ o3, ox3 = .inr o3 → ∀ (H : Heap) (locs : List Loc) (ls : Array Slot), ep_W G ep_cl h s H locs → lv_has ls 7 [(0, .ref a0), (1, .int x1), (2, .int x2)] → wX4_best p l e s m below meth c G h a0 x1 x2 res 0 0 H locs (F0 m 29 ls []) := by
      intro o3 eo H locs ls hw hl
      have hf := orL_2 hk3 eo
      refine lv_iconst (v := iI (-1)) hx hb dX4_best_29 rfl ?_
      refine lv_istore_n (lv' := [(3, .int (iI (-1))), (0, .ref a0), (1, .int x1), (2, .int x2)]) hx hb dX4_best_30 rfl hl (by decide) rfl (fun ls hl => ?_)
      refine lv_iconst (v := iI 0) hx hb dX4_best_31 rfl ?_
      refine lv_istore (lv' := [(4, .int (iI 0)), (3, .int (iI (-1))), (0, .ref a0), (1, .int x1), (2, .int x2)]) hx hb dX4_best_32 hl (by decide) rfl (fun ls hl => ?_)
      refine lv_iconst (v := iI 0) hx hb dX4_best_34 rfl ?_
      refine lv_istore (lv' := [(5, .int (iI 0)), (4, .int (iI 0)), (3, .int (iI (-1))), (0, .ref a0), (1, .int x1), (2, .int x2)]) hx hb dX4_best_35 hl (by decide) rfl (fun ls hl => ?_)
      obtain ⟨o7, ho7, hf⟩ := ob_s hf
      have hJ7 : ∀ (H : Heap) (locs : List Loc) (ls : Array Slot), ep_W G ep_cl o7.1 s H locs → lv_has ls 7 [(0, .ref a0), (2, .int x2), (3, .int o7.2.1), (4, .int o7.2.2)] → wX4_best p l e s m below meth c G h a0 x1 x2 res 0 0 H locs (F0 m 100 ls []) := by
        intro H locs ls hw hl
        refine lv_aload_n hx hb dX4_best_100 rfl (lv_at hl 0 rfl) ?_
        refine lv_iload hx hb dX4_best_101 (lv_at hl 3 rfl) ?_
        obtain ⟨o19, eo19, hf⟩ := ob_s hf
        refine ep_calli0 (va_runV (As := [.int o7.2.2]) (rest := []) ⟨hx, hb, hml, hown, hts⟩ (metX4_drivesBy l G o7.1 a0 o7.2.2 eo19) (cwV 1 hts (lw_V q1539 q1541 qs79 q89 q1542) rfl rfl rfl hdX4_drivesBy ⟨Nat.le_of_ble_eq_true rfl, Nat.le_of_ble_eq_true rfl⟩) (ep_preV hK hZ hw rfl (ckX4_drivesBy eo19)) rfl rfl hl.1 rfl (lv_room (Nat.le_of_ble_eq_true rfl)) dX4_best_103 ⟨Nat.le_of_ble_eq_true rfl, Nat.le_of_ble_eq_true rfl⟩) hw (fun H locs hw => ?_)
        refine lv_pop hx hb dX4_best_106 rfl ?_
        refine lv_iload_n hx hb dX4_best_107 rfl (lv_at hl 1 rfl) ?_
        refine lv_if_ne (tgt := 115) hx hb dX4_best_108 (by decide) (fun c20 => ?_) (fun c20 => ?_)
        · have hf := oi_f hf c20
          refine lv_aload_n hx hb dX4_best_115 rfl (lv_at hl 0 rfl) ?_
          refine lv_iload_n hx hb dX4_best_116 rfl (lv_at hl 1 rfl) ?_
          refine lv_bipush (v := iI 10) hx hb dX4_best_117 (by decide) ?_
          refine lv_isub hx hb dX4_best_119 ?_
          refine lv_iconst (v := iI 2) hx hb dX4_best_120 rfl ?_
          obtain ⟨v21, ev21, hf⟩ := ob_s hf
          refine ep_calli0 (va_runV (As := [.int (x2 - (iI 10)), .int (iI 2)]) (rest := []) ⟨hx, hb, hml, hown, hts⟩ (metX4_of l G o19.2 a0 (x2 - (iI 10)) (iI 2) ev21) (cwV 2 hts (lw_V q1327 q1329 qs50 q89 q1330) rfl rfl rfl hdX4_of ⟨Nat.le_of_ble_eq_true rfl, Nat.le_of_ble_eq_true rfl⟩) (ep_preV hK hZ hw rfl (ckX4_of ev21)) rfl rfl hl.1 rfl (lv_room (Nat.le_of_ble_eq_true rfl)) dX4_best_121 ⟨Nat.le_of_ble_eq_true rfl, Nat.le_of_ble_eq_true rfl⟩) hw (fun H locs hw => ?_)
          exact ep_retiW hx hb hr hlocks hw hf dX4_best_124
        · have hf := oi_t hf c20
          refine lv_iload_n hx hb dX4_best_111 rfl (lv_at hl 2 rfl) ?_
          refine lv_goto (tgt := 124) hx hb dX4_best_112 (by decide) ?_
          exact ep_retiW hx hb hr hlocks hw hf dX4_best_124
      have hL7 : ∀ (fu : Nat) (h : Hp) (x3 : Int32) (x4 : Int32) (x5 : Int32), fX4_best_L37 a0 x1 x2 fu h x3 x4 x5 = some o7 → ∀ (H : Heap) (locs : List Loc) (ls : Array Slot), ep_W G ep_cl h s H locs → lv_has ls 7 [(0, .ref a0), (1, .int x1), (2, .int x2), (3, .int x3), (4, .int x4), (5, .int x5)] → wX4_best p l e s m below meth c G h a0 x1 x2 res 0 0 H locs (F0 m 37 ls []) := by
        intro fu
        induction fu with
        | zero => intro h x3 x4 x5 ho7; cases ho7
        | succ fu ih7 =>
          intro h x3 x4 x5 ho7 H locs ls hw hl
          rw [fX4_best_L37] at ho7
          refine lv_iload hx hb dX4_best_37 (lv_at hl 5 rfl) ?_
          refine lv_aload_n hx hb dX4_best_39 rfl (lv_at hl 0 rfl) ?_
          obtain ⟨v8, ev8, ho7⟩ := ob_s ho7
          refine ep_calli0 (va_runV (As := []) (rest := [.int x5]) ⟨hx, hb, hml, hown, hts⟩ (metX4_droves l G h a0 ev8) (cwV 0 hts (lw_V q1535 q1537 qs78 q89 q1538) rfl rfl rfl hdX4_droves ⟨Nat.le_of_ble_eq_true rfl, Nat.le_of_ble_eq_true rfl⟩) (ep_preV hK hZ hw rfl (ckX4_droves ev8)) rfl rfl hl.1 rfl (lv_room (Nat.le_of_ble_eq_true rfl)) dX4_best_40 ⟨Nat.le_of_ble_eq_true rfl, Nat.le_of_ble_eq_true rfl⟩) hw (fun H locs hw => ?_)
          refine lv_icmp_ge (tgt := 100) hx hb dX4_best_43 (by decide) (fun c9 => ?_) (fun c9 => ?_)
          · have ho7 := oi_t ho7 c9
            obtain rfl := Option.some.inj ho7
            exact hJ7 _ _ _ hw (lv_sub hl [0, 2, 3, 4] rfl)
          · have ho7 := oi_f ho7 c9
            refine lv_aload_n hx hb dX4_best_46 rfl (lv_at hl 0 rfl) ?_
            refine lv_iload hx hb dX4_best_47 (lv_at hl 5 rfl) ?_
            obtain ⟨o10, eo10, ho7⟩ := ob_s ho7
            refine ep_calli0 (va_runV (As := [.int x5]) (rest := []) ⟨hx, hb, hml, hown, hts⟩ (metX4_drivesBy l G h a0 x5 eo10) (cwV 1 hts (lw_V q1539 q1541 qs79 q89 q1542) rfl rfl rfl hdX4_drivesBy ⟨Nat.le_of_ble_eq_true rfl, Nat.le_of_ble_eq_true rfl⟩) (ep_preV hK hZ hw rfl (ckX4_drivesBy eo10)) rfl rfl hl.1 rfl (lv_room (Nat.le_of_ble_eq_true rfl)) dX4_best_49 ⟨Nat.le_of_ble_eq_true rfl, Nat.le_of_ble_eq_true rfl⟩) hw (fun H locs hw => ?_)
            obtain ⟨o11, ho11, ho7⟩ := ob_s ho7
            have hJ11 : ∀ (H : Heap) (locs : List Loc) (ls : Array Slot), ep_W G ep_cl o11.1 s H locs → lv_has ls 7 [(0, .ref a0), (1, .int x1), (2, .int x2), (3, .int o11.2.1), (4, .int o11.2.2), (5, .int x5)] → wX4_best p l e s m below meth c G h a0 x1 x2 res 0 0 H locs (F0 m 94 ls []) := by
              intro H locs ls hw hl
              refine lv_iinc (v := (x5 + iI 1)) (lv' := [(5, .int (x5 + iI 1)), (0, .ref a0), (1, .int x1), (2, .int x2), (3, .int o11.2.1), (4, .int o11.2.2)]) hx hb dX4_best_94 hl (k := 5) rfl rfl (by decide) rfl (fun ls hl => ?_)
              refine lv_goto (tgt := 37) hx hb dX4_best_97 (by decide) ?_
              exact ih7 _ _ _ _ ho7 _ _ _ hw (lv_sub hl [1, 2, 3, 4, 5, 0] rfl)
            refine lv_if_eq (tgt := 94) hx hb dX4_best_52 (by decide) (fun c12 => ?_) (fun c12 => ?_)
            · have ho11 := oi_t ho11 c12
              obtain rfl := Option.some.inj ho11
              exact hJ11 _ _ _ hw (lv_sub hl [0, 1, 2, 3, 4, 5] rfl)
            · have ho11 := oi_f ho11 c12
              refine lv_aload_n hx hb dX4_best_55 rfl (lv_at hl 0 rfl) ?_
              refine lv_iload_n hx hb dX4_best_56 rfl (lv_at hl 1 rfl) ?_
              obtain ⟨o13, eo13, ho11⟩ := ob_s ho11
              refine ep_callv0 (va_runV (As := [.int x1]) (rest := []) ⟨hx, hb, hml, hown, hts⟩ (metX4_weeksGo l G o10.2 a0 x1 eo13) (cwV 1 hts (lw_V q1439 q1441 qs64 q89 q1442) rfl rfl rfl hdX4_weeksGo ⟨Nat.le_of_ble_eq_true rfl, Nat.le_of_ble_eq_true rfl⟩) (ep_preV hK hZ hw rfl (ckX4_weeksGo eo13)) rfl rfl hl.1 rfl (lv_room (Nat.le_of_ble_eq_true rfl)) dX4_best_57 ⟨Nat.le_of_ble_eq_true rfl, Nat.le_of_ble_eq_true rfl⟩) hw (fun H locs hw => ?_)
              refine lv_aload_n hx hb dX4_best_60 rfl (lv_at hl 0 rfl) ?_
              obtain ⟨o14, eo14, ho11⟩ := ob_s ho11
              refine ep_calli0 (va_runV (As := []) (rest := []) ⟨hx, hb, hml, hown, hts⟩ (metX4_bestSale l G o13 a0 eo14) (cwV 0 hts (lw_V q1511 q1513 qs74 q89 q1514) rfl rfl rfl hdX4_bestSale ⟨Nat.le_of_ble_eq_true rfl, Nat.le_of_ble_eq_true rfl⟩) (ep_preV hK hZ hw rfl (ckX4_bestSale eo14)) rfl rfl hl.1 rfl (lv_room (Nat.le_of_ble_eq_true rfl)) dX4_best_61 ⟨Nat.le_of_ble_eq_true rfl, Nat.le_of_ble_eq_true rfl⟩) hw (fun H locs hw => ?_)
              refine lv_istore (lv' := [(6, .int o14.1), (0, .ref a0), (1, .int x1), (2, .int x2), (3, .int x3), (4, .int x4), (5, .int x5)]) hx hb dX4_best_64 hl (by decide) rfl (fun ls hl => ?_)
              refine lv_iload hx hb dX4_best_66 (lv_at hl 0 rfl) ?_
              refine lv_iload_n hx hb dX4_best_68 rfl (lv_at hl 4 rfl) ?_
              have hJ15 : wX4_best p l e s m below meth c G h a0 x1 x2 res 0 0 H locs (F0 m 79 ls [.int (if o14.1 ≤ x3 then x4 else x5)]) := by
                refine lv_istore (lv' := [(4, .int (if o14.1 ≤ x3 then x4 else x5)), (6, .int o14.1), (0, .ref a0), (1, .int x1), (2, .int x2), (3, .int x3), (5, .int x5)]) hx hb dX4_best_79 hl (by decide) rfl (fun ls hl => ?_)
                refine lv_iload hx hb dX4_best_81 (lv_at hl 1 rfl) ?_
                refine lv_iload_n hx hb dX4_best_83 rfl (lv_at hl 5 rfl) ?_
                have hJ17 : wX4_best p l e s m below meth c G h a0 x1 x2 res 0 0 H locs (F0 m 93 ls [.int (if o14.1 ≤ x3 then x3 else o14.1)]) := by
                  refine lv_istore_n (lv' := [(3, .int (if o14.1 ≤ x3 then x3 else o14.1)), (4, .int (if o14.1 ≤ x3 then x4 else x5)), (6, .int o14.1), (0, .ref a0), (1, .int x1), (2, .int x2), (5, .int x5)]) hx hb dX4_best_93 rfl hl (by decide) rfl (fun ls hl => ?_)
                  obtain rfl := Option.some.inj ho11
                  exact hJ11 _ _ _ hw (lv_sub hl [3, 4, 5, 0, 1, 6] rfl)
                refine lv_icmp_le (tgt := 92) hx hb dX4_best_84 (by decide) (fun c18 => ?_) (fun c18 => ?_)
                · refine lv_iload_n hx hb dX4_best_92 rfl (lv_at hl 5 rfl) ?_
                  rw [if_pos c18] at hJ17
                  exact hJ17
                · refine lv_iload hx hb dX4_best_87 (lv_at hl 1 rfl) ?_
                  refine lv_goto (tgt := 93) hx hb dX4_best_89 (by decide) ?_
                  rw [if_neg c18] at hJ17
                  exact hJ17
              refine lv_icmp_le (tgt := 77) hx hb dX4_best_69 (by decide) (fun c16 => ?_) (fun c16 => ?_)
              · refine lv_iload hx hb dX4_best_77 (lv_at hl 5 rfl) ?_
                rw [if_pos c16] at hJ15
                exact hJ15
              · refine lv_iload hx hb dX4_best_72 (lv_at hl 6 rfl) ?_
                refine lv_goto (tgt := 79) hx hb dX4_best_74 (by decide) ?_
                rw [if_neg c16] at hJ15
                exact hJ15
      exact hL7 FUEL _ _ _ _ ho7 _ _ _ hw (lv_sub hl [3, 4, 5, 2, 1, 0] rfl)
    refine lv_if_eq (tgt := 29) hx hb dX4_best_13 (by decide) (fun c4 => ?_) (fun c4 => ?_)
    · have ho3 := oi_t ho3 c4
      exact hJ3 _ (Option.some.inj ho3).symm _ _ _ hw (lv_sub hl [0, 1, 2] rfl)
    · have ho3 := oi_f ho3 c4
      refine lv_aload_n hx hb dX4_best_16 rfl (lv_at hl 0 rfl) ?_
      refine lv_iload_n hx hb dX4_best_17 rfl (lv_at hl 2 rfl) ?_
      refine lv_bipush (v := iI 10) hx hb dX4_best_18 (by decide) ?_
      refine lv_isub hx hb dX4_best_20 ?_
      obtain ⟨v5, ev5, ho3⟩ := ob_s ho3
      refine ep_calli0 (va_runV (As := [.int (x2 - (iI 10))]) (rest := []) ⟨hx, hb, hml, hown, hts⟩ (metX4_isEcho l G h a0 (x2 - (iI 10)) ev5) (cwV 1 hts (lw_V q1352 q1354 qs54 q89 q1355) rfl rfl rfl hdX4_isEcho ⟨Nat.le_of_ble_eq_true rfl, Nat.le_of_ble_eq_true rfl⟩) (ep_preV hK hZ hw rfl (ckX4_isEcho ev5)) rfl rfl hl.1 rfl (lv_room (Nat.le_of_ble_eq_true rfl)) dX4_best_21 ⟨Nat.le_of_ble_eq_true rfl, Nat.le_of_ble_eq_true rfl⟩) hw (fun H locs hw => ?_)
      refine lv_if_ne (tgt := 29) hx hb dX4_best_24 (by decide) (fun c6 => ?_) (fun c6 => ?_)
      · have ho3 := oi_f ho3 c6
        exact hJ3 _ (Option.some.inj ho3).symm _ _ _ hw (lv_sub hl [0, 1, 2] rfl)
      · have ho3 := oi_t ho3 c6
        refine lv_iconst (v := iI (-1)) hx hb dX4_best_27 rfl ?_
        exact ep_retiW hx hb hr hlocks hw (hT3 _ (Option.some.inj ho3).symm) dX4_best_28
theorem hdX4_near : yX4_near.cls = RX4 ∧ yX4_near.cls ≠ "java/lang/invoke/MethodHandle" ∧ yX4_near.cls ≠ "java/lang/invoke/VarHandle" ∧ (parseMethodDescriptor yX4_near.desc).map (fun d => d.parameters.length) = some 1 := by decide +kernel
theorem ckX4_near {h : Hp} {a0 : Nat} {x1 : Int32} {res : Int32 × Hp} (hf : fX4_near h a0 x1 = some res) : ep_cls h a0 = some 4 := by
  unfold fX4_near at hf
  exact (oi_c hf).1
abbrev wX4_near (p : Program) (l : Launch) (e : Env) (s : State) (m : MethodId) (below : List Frame) (meth : Method) (c : Code) (G : EG) (h : Hp) (a0 : Nat) (x1 : Int32) (res : Int32 × Hp) (k9 n9 : Nat) (H : Heap) (locs : List Loc) (g : JFrame) : Prop := W p l e (headSpec (ws_ yX4_near cX4_near 7 (some .int)) ({ frames := 3, cells := 0, slots := 0, locals := 65 } : Room)).room s m ([.ref a0, .int x1] : List Value).toArray below meth c H locs k9 n9 (MQ below (ep_Qi G ep_cl res.2 res.1) ([.ref a0, .int x1] : List Value).toArray s 0 0 (ep_A G)) g
set_option maxHeartbeats 4000000 in
theorem metX4_near (l : Launch) (G : EG) (h : Hp) (a0 : Nat) (x1 : Int32) {res : Int32 × Hp} (hf : fX4_near h a0 x1 = some res) : Met l yX4_near (ws_ yX4_near cX4_near 7 (some .int)) ({ frames := 3, cells := 0, slots := 0, locals := 65 } : Room) (ep_Pc G ep_cl h [.ref a0, .int x1]) (ep_Qi G ep_cl res.2 res.1) 0 0 (ep_A G) := by
  refine Met.ofW (cc := cX4_near) (maxL := 7) (ret := (some .int)) (by decide) rfl ?_
  intro p e s m args below meth c s₁ B hml hv
  obtain ⟨rfl, hR, hK, hZ⟩ := hv
  have hx := B.exec
  have hb := B.bytes
  have hr := B.returns
  have hlocks := B.notSynchronized
  have hts := atoms_spec (ws := (ws_ yX4_near cX4_near 7 (some .int))) B.pre
  have hts : ∀ w ∈ lw_all, w.before _ s = true := fun w h => hts w (List.mem_cons_of_mem _ h)
  have hown : s.vm.findClass RX4 = some m.cls := findClass_of_methodNamed B.named
  have hw : ep_W G ep_cl h s s.heap [] := ⟨hR, va_S.rf⟩
  have hl := lv_entry ([.ref a0, .int x1]) (n := 7) (Nat.le_of_ble_eq_true rfl)
  rw [lg_entry_eq]
  generalize (lg_sl ([.ref a0, .int x1]) ++ List.replicate (7 - (lg_sl ([.ref a0, .int x1])).length) Slot.unset).toArray = ls at hl ⊢
  have hl : lv_has ls 7 [(0, .ref a0), (1, .int x1)] := hl
  unfold fX4_near at hf
  have hf := (oi_c hf).2
  show wX4_near p l e s m below meth c G h a0 x1 res 0 0 s.heap ([]) (F0 m 0 ls [])
  refine lv_iload_n hx hb dX4_near_0 rfl (lv_at hl 1 rfl) ?_
  obtain ⟨v1, ev1, hf⟩ := ob_s hf
  refine ep_calli0 (va_runS (As := [.int x1]) (rest := []) ⟨hx, hb, hml, hown, hts⟩ (metX4_isPart l G h x1 ev1) (va_cwS 1 hts (lw_S q1399 q1400 q89 q1401) rfl rfl rfl hsX4_isPart ⟨Nat.le_of_ble_eq_true rfl, Nat.le_of_ble_eq_true rfl⟩) (ep_preS hK hZ hw) rfl rfl hl.1 rfl (lv_room (Nat.le_of_ble_eq_true rfl)) dX4_near_1 ⟨Nat.le_of_ble_eq_true rfl, Nat.le_of_ble_eq_true rfl⟩) hw (fun H locs hw => ?_)
  refine lv_if_ne (tgt := 9) hx hb dX4_near_4 (by decide) (fun c2 => ?_) (fun c2 => ?_)
  · have hf := oi_f hf c2
    refine lv_aload_n hx hb dX4_near_9 rfl (lv_at hl 0 rfl) ?_
    obtain ⟨o3, eo3, hf⟩ := ob_s hf
    refine ep_callv0 (va_runV (As := []) (rest := []) ⟨hx, hb, hml, hown, hts⟩ (metX4_starts l G h a0 eo3) (cwV 0 hts (lw_V q1319 q1321 qs48 q89 q1322) rfl rfl rfl hdX4_starts ⟨Nat.le_of_ble_eq_true rfl, Nat.le_of_ble_eq_true rfl⟩) (ep_preV hK hZ hw rfl (ckX4_starts eo3)) rfl rfl hl.1 rfl (lv_room (Nat.le_of_ble_eq_true rfl)) dX4_near_10 ⟨Nat.le_of_ble_eq_true rfl, Nat.le_of_ble_eq_true rfl⟩) hw (fun H locs hw => ?_)
    refine lv_ldcw (v := (1000000000 : Int32)) hx hb hown (hts _ q1547) dX4_near_13 ?_
    refine lv_istore_n (lv' := [(2, .int (1000000000 : Int32)), (0, .ref a0), (1, .int x1)]) hx hb dX4_near_16 rfl hl (by decide) rfl (fun ls hl => ?_)
    refine lv_bipush (v := iI (-4)) hx hb dX4_near_17 (by decide) ?_
    refine lv_istore_n (lv' := [(3, .int (iI (-4))), (2, .int (1000000000 : Int32)), (0, .ref a0), (1, .int x1)]) hx hb dX4_near_19 rfl hl (by decide) rfl (fun ls hl => ?_)
    refine lv_iconst (v := iI 0) hx hb dX4_near_20 rfl ?_
    refine lv_istore (lv' := [(4, .int (iI 0)), (3, .int (iI (-4))), (2, .int (1000000000 : Int32)), (0, .ref a0), (1, .int x1)]) hx hb dX4_near_21 hl (by decide) rfl (fun ls hl => ?_)
    obtain ⟨o4, ho4, hf⟩ := ob_s hf
    have hJ4 : ∀ (H : Heap) (locs : List Loc) (ls : Array Slot), ep_W G ep_cl o3 s H locs → lv_has ls 7 [(1, .int x1), (2, .int o4.1), (3, .int o4.2)] → wX4_near p l e s m below meth c G h a0 x1 res 0 0 H locs (F0 m 152 ls []) := by
      intro H locs ls hw hl
      refine lv_iload_n hx hb dX4_near_152 rfl (lv_at hl 2 rfl) ?_
      refine lv_bipush (v := iI (-4)) hx hb dX4_near_153 (by decide) ?_
      refine lv_icmp_ne (tgt := 163) hx hb dX4_near_155 (by decide) (fun c28 => ?_) (fun c28 => ?_)
      · have hf := oi_f hf c28
        refine lv_iload_n hx hb dX4_near_163 rfl (lv_at hl 0 rfl) ?_
        refine lv_if_ne (tgt := 171) hx hb dX4_near_164 (by decide) (fun c29 => ?_) (fun c29 => ?_)
        · have hf := oi_f hf c29
          refine lv_iload_n hx hb dX4_near_171 rfl (lv_at hl 1 rfl) ?_
          exact ep_retiW hx hb hr hlocks hw hf dX4_near_172
        · have hf := oi_t hf c29
          refine lv_iload_n hx hb dX4_near_167 rfl (lv_at hl 2 rfl) ?_
          refine lv_goto (tgt := 172) hx hb dX4_near_168 (by decide) ?_
          exact ep_retiW hx hb hr hlocks hw hf dX4_near_172
      · have hf := oi_t hf c28
        refine lv_bipush (v := iI (-4)) hx hb dX4_near_158 (by decide) ?_
        refine lv_goto (tgt := 172) hx hb dX4_near_160 (by decide) ?_
        exact ep_retiW hx hb hr hlocks hw hf dX4_near_172
    have hL4 : ∀ (fu : Nat) (x2 : Int32) (x3 : Int32) (x4 : Int32), fX4_near_L23 o3 a0 x1 fu x2 x3 x4 = some o4 → ∀ (H : Heap) (locs : List Loc) (ls : Array Slot), ep_W G ep_cl o3 s H locs → lv_has ls 7 [(0, .ref a0), (1, .int x1), (2, .int x2), (3, .int x3), (4, .int x4)] → wX4_near p l e s m below meth c G h a0 x1 res 0 0 H locs (F0 m 23 ls []) := by
      intro fu
      induction fu with
      | zero => intro x2 x3 x4 ho4; cases ho4
      | succ fu ih4 =>
        intro x2 x3 x4 ho4 H locs ls hw hl
        rw [fX4_near_L23] at ho4
        refine lv_iload hx hb dX4_near_23 (lv_at hl 4 rfl) ?_
        refine lv_aload_n hx hb dX4_near_25 rfl (lv_at hl 0 rfl) ?_
        obtain ⟨v5, ev5, ho4⟩ := ob_s ho4
        refine ep_get (C := RX4) (T := TX4) (N := 32) (ci := 4) hx hb hts in_X4 hown hK hw rfl 5 (by decide) q1144 (gI_f ev5) dX4_near_26 ?_
        refine lv_icmp_ge (tgt := 152) hx hb dX4_near_29 (by decide) (fun c6 => ?_) (fun c6 => ?_)
        · have ho4 := oi_t ho4 c6
          obtain rfl := Option.some.inj ho4
          exact hJ4 _ _ _ hw (lv_sub hl [1, 2, 3] rfl)
        · have ho4 := oi_f ho4 c6
          refine lv_iconst (v := iI 0) hx hb dX4_near_32 rfl ?_
          refine lv_istore (lv' := [(5, .int (iI 0)), (0, .ref a0), (1, .int x1), (2, .int x2), (3, .int x3), (4, .int x4)]) hx hb dX4_near_33 hl (by decide) rfl (fun ls hl => ?_)
          obtain ⟨o7, ho7, ho4⟩ := ob_s ho4
          have hJ7 : ∀ (H : Heap) (locs : List Loc) (ls : Array Slot), ep_W G ep_cl o3 s H locs → lv_has ls 7 [(0, .ref a0), (1, .int x1), (2, .int o7.1), (3, .int o7.2), (4, .int x4)] → wX4_near p l e s m below meth c G h a0 x1 res 0 0 H locs (F0 m 146 ls []) := by
            intro H locs ls hw hl
            refine lv_iinc (v := (x4 + iI 1)) (lv' := [(4, .int (x4 + iI 1)), (0, .ref a0), (1, .int x1), (2, .int o7.1), (3, .int o7.2)]) hx hb dX4_near_146 hl (k := 4) rfl rfl (by decide) rfl (fun ls hl => ?_)
            refine lv_goto (tgt := 23) hx hb dX4_near_149 (by decide) ?_
            exact ih4 _ _ _ ho4 _ _ _ hw (lv_sub hl [1, 2, 3, 4, 0] rfl)
          have hL7 : ∀ (fu : Nat) (x2 : Int32) (x3 : Int32) (x5 : Int32), fX4_near_L35 o3 a0 x1 x4 fu x2 x3 x5 = some o7 → ∀ (H : Heap) (locs : List Loc) (ls : Array Slot), ep_W G ep_cl o3 s H locs → lv_has ls 7 [(0, .ref a0), (1, .int x1), (2, .int x2), (3, .int x3), (4, .int x4), (5, .int x5)] → wX4_near p l e s m below meth c G h a0 x1 res 0 0 H locs (F0 m 35 ls []) := by
            intro fu
            induction fu with
            | zero => intro x2 x3 x5 ho7; cases ho7
            | succ fu ih7 =>
              intro x2 x3 x5 ho7 H locs ls hw hl
              rw [fX4_near_L35] at ho7
              refine lv_iload hx hb dX4_near_35 (lv_at hl 5 rfl) ?_
              refine lv_aload_n hx hb dX4_near_37 rfl (lv_at hl 0 rfl) ?_
              obtain ⟨v8, ev8, ho7⟩ := ob_s ho7
              refine ep_get (C := RX4) (T := TX4) (N := 32) (ci := 4) hx hb hts in_X4 hown hK hw rfl 4 (by decide) q1143 (gI_f ev8) dX4_near_38 ?_
              refine lv_icmp_ge (tgt := 146) hx hb dX4_near_41 (by decide) (fun c9 => ?_) (fun c9 => ?_)
              · have ho7 := oi_t ho7 c9
                obtain rfl := Option.some.inj ho7
                exact hJ7 _ _ _ hw (lv_sub hl [0, 1, 2, 3, 4] rfl)
              · have ho7 := oi_f ho7 c9
                refine lv_aload_n hx hb dX4_near_44 rfl (lv_at hl 0 rfl) ?_
                refine lv_iload hx hb dX4_near_45 (lv_at hl 4 rfl) ?_
                obtain ⟨v10, ev10, ho7⟩ := ob_s ho7
                refine ep_calli0 (va_runV (As := [.int x4]) (rest := []) ⟨hx, hb, hml, hown, hts⟩ (metX4_isOpen l G o3 a0 x4 ev10) (cwV 1 hts (lw_V q1467 q1469 qs69 q89 q1470) rfl rfl rfl hdX4_isOpen ⟨Nat.le_of_ble_eq_true rfl, Nat.le_of_ble_eq_true rfl⟩) (ep_preV hK hZ hw rfl (ckX4_isOpen ev10)) rfl rfl hl.1 rfl (lv_room (Nat.le_of_ble_eq_true rfl)) dX4_near_47 ⟨Nat.le_of_ble_eq_true rfl, Nat.le_of_ble_eq_true rfl⟩) hw (fun H locs hw => ?_)
                obtain ⟨o11, ho11, ho7⟩ := ob_s ho7
                have hJ11 : ∀ (H : Heap) (locs : List Loc) (ls : Array Slot), ep_W G ep_cl o3 s H locs → lv_has ls 7 [(0, .ref a0), (1, .int x1), (2, .int o11.1), (3, .int o11.2), (4, .int x4), (5, .int x5)] → wX4_near p l e s m below meth c G h a0 x1 res 0 0 H locs (F0 m 140 ls []) := by
                  intro H locs ls hw hl
                  refine lv_iinc (v := (x5 + iI 1)) (lv' := [(5, .int (x5 + iI 1)), (0, .ref a0), (1, .int x1), (2, .int o11.1), (3, .int o11.2), (4, .int x4)]) hx hb dX4_near_140 hl (k := 5) rfl rfl (by decide) rfl (fun ls hl => ?_)
                  refine lv_goto (tgt := 35) hx hb dX4_near_143 (by decide) ?_
                  exact ih7 _ _ _ ho7 _ _ _ hw (lv_sub hl [1, 2, 3, 4, 5, 0] rfl)
                refine lv_if_eq (tgt := 140) hx hb dX4_near_50 (by decide) (fun c12 => ?_) (fun c12 => ?_)
                · have ho11 := oi_t ho11 c12
                  obtain rfl := Option.some.inj ho11
                  exact hJ11 _ _ _ hw (lv_sub hl [0, 1, 2, 3, 4, 5] rfl)
                · have ho11 := oi_f ho11 c12
                  refine lv_aload_n hx hb dX4_near_53 rfl (lv_at hl 0 rfl) ?_
                  refine lv_iload hx hb dX4_near_54 (lv_at hl 5 rfl) ?_
                  obtain ⟨v13, ev13, ho11⟩ := ob_s ho11
                  refine ep_calli0 (va_runV (As := [.int x5]) (rest := []) ⟨hx, hb, hml, hown, hts⟩ (metX4_isSold l G o3 a0 x5 ev13) (cwV 1 hts (lw_V q1360 q1362 qs56 q89 q1363) rfl rfl rfl hdX4_isSold ⟨Nat.le_of_ble_eq_true rfl, Nat.le_of_ble_eq_true rfl⟩) (ep_preV hK hZ hw rfl (ckX4_isSold ev13)) rfl rfl hl.1 rfl (lv_room (Nat.le_of_ble_eq_true rfl)) dX4_near_56 ⟨Nat.le_of_ble_eq_true rfl, Nat.le_of_ble_eq_true rfl⟩) hw (fun H locs hw => ?_)
                  refine lv_if_ne (tgt := 140) hx hb dX4_near_59 (by decide) (fun c14 => ?_) (fun c14 => ?_)
                  · have ho11 := oi_f ho11 c14
                    obtain rfl := Option.some.inj ho11
                    exact hJ11 _ _ _ hw (lv_sub hl [0, 1, 2, 3, 4, 5] rfl)
                  · have ho11 := oi_t ho11 c14
                    refine lv_aload_n hx hb dX4_near_62 rfl (lv_at hl 0 rfl) ?_
                    refine lv_iload hx hb dX4_near_63 (lv_at hl 5 rfl) ?_
                    refine lv_iload hx hb dX4_near_65 (lv_at hl 4 rfl) ?_
                    obtain ⟨v15, ev15, ho11⟩ := ob_s ho11
                    refine ep_calli0 (va_runV (As := [.int x5, .int x4]) (rest := []) ⟨hx, hb, hml, hown, hts⟩ (metX4_endsSo l G o3 a0 x5 x4 ev15) (cwV 2 hts (lw_V q1471 q1473 qs70 q89 q1474) rfl rfl rfl hdX4_endsSo ⟨Nat.le_of_ble_eq_true rfl, Nat.le_of_ble_eq_true rfl⟩) (ep_preV hK hZ hw rfl (ckX4_endsSo ev15)) rfl rfl hl.1 rfl (lv_room (Nat.le_of_ble_eq_true rfl)) dX4_near_67 ⟨Nat.le_of_ble_eq_true rfl, Nat.le_of_ble_eq_true rfl⟩) hw (fun H locs hw => ?_)
                    refine lv_if_eq (tgt := 140) hx hb dX4_near_70 (by decide) (fun c16 => ?_) (fun c16 => ?_)
                    · have ho11 := oi_t ho11 c16
                      obtain rfl := Option.some.inj ho11
                      exact hJ11 _ _ _ hw (lv_sub hl [0, 1, 2, 3, 4, 5] rfl)
                    · have ho11 := oi_f ho11 c16
                      refine lv_aload_n hx hb dX4_near_73 rfl (lv_at hl 0 rfl) ?_
                      obtain ⟨r17, er17, ho11⟩ := ob_s ho11
                      refine ep_get (C := RX4) (T := TX4) (N := 32) (ci := 4) hx hb hts in_X4 hown hK hw rfl 6 (by decide) q1145 (gR_f er17) dX4_near_74 ?_
                      refine lv_bipush (v := iI 8) hx hb dX4_near_77 (by decide) ?_
                      refine lv_iload hx hb dX4_near_79 (lv_at hl 4 rfl) ?_
                      refine lv_imul hx hb dX4_near_81 ?_
                      refine lv_bipush (v := iI 6) hx hb dX4_near_82 (by decide) ?_
                      refine lv_iadd hx hb dX4_near_84 ?_
                      obtain ⟨v18, ev18, ho11⟩ := ob_s ho11
                      refine ep_iald hx hb hK hw ev18 dX4_near_85 ?_
                      refine lv_aload_n hx hb dX4_near_86 rfl (lv_at hl 0 rfl) ?_
                      refine lv_iload hx hb dX4_near_87 (lv_at hl 5 rfl) ?_
                      obtain ⟨v19, ev19, ho11⟩ := ob_s ho11
                      refine ep_calli0 (va_runV (As := [.int x5]) (rest := [.int v18]) ⟨hx, hb, hml, hown, hts⟩ (metX4_returnsOf l G o3 a0 x5 ev19) (cwV 1 hts (lw_V q1356 q1358 qs55 q89 q1359) rfl rfl rfl hdX4_returnsOf ⟨Nat.le_of_ble_eq_true rfl, Nat.le_of_ble_eq_true rfl⟩) (ep_preV hK hZ hw rfl (ckX4_returnsOf ev19)) rfl rfl hl.1 rfl (lv_room (Nat.le_of_ble_eq_true rfl)) dX4_near_89 ⟨Nat.le_of_ble_eq_true rfl, Nat.le_of_ble_eq_true rfl⟩) hw (fun H locs hw => ?_)
                      refine lv_isub hx hb dX4_near_92 ?_
                      refine lv_istore (lv' := [(6, .int (v18 - v19)), (0, .ref a0), (1, .int x1), (2, .int x2), (3, .int x3), (4, .int x4), (5, .int x5)]) hx hb dX4_near_93 hl (by decide) rfl (fun ls hl => ?_)
                      refine lv_iload hx hb dX4_near_95 (lv_at hl 0 rfl) ?_
                      have hJ20 : wX4_near p l e s m below meth c G h a0 x1 res 0 0 H locs (F0 m 106 ls [.int (if (v18 - v19) ≤ 0 then iI 0 else (v18 - v19))]) := by
                        refine lv_istore (lv' := [(6, .int (if (v18 - v19) ≤ 0 then iI 0 else (v18 - v19))), (0, .ref a0), (1, .int x1), (2, .int x2), (3, .int x3), (4, .int x4), (5, .int x5)]) hx hb dX4_near_106 hl (by decide) rfl (fun ls hl => ?_)
                        refine lv_iload hx hb dX4_near_108 (lv_at hl 0 rfl) ?_
                        refine lv_iload_n hx hb dX4_near_110 rfl (lv_at hl 3 rfl) ?_
                        have hJ22 : wX4_near p l e s m below meth c G h a0 x1 res 0 0 H locs (F0 m 126 ls [.int (if x2 ≤ (if (v18 - v19) ≤ 0 then iI 0 else (v18 - v19)) then x3 else (((iI 10) * x4) + x5))]) := by
                          refine lv_topi (fun x_24 ex_24 => ?_)
                          have ho11 := nmI_s ho11 x_24 ex_24
                          refine lv_istore_n (lv' := [(3, .int x_24), (6, .int (if (v18 - v19) ≤ 0 then iI 0 else (v18 - v19))), (0, .ref a0), (1, .int x1), (2, .int x2), (4, .int x4), (5, .int x5)]) hx hb dX4_near_126 rfl hl (by decide) rfl (fun ls hl => ?_)
                          refine lv_iload hx hb dX4_near_127 (lv_at hl 1 rfl) ?_
                          refine lv_iload_n hx hb dX4_near_129 rfl (lv_at hl 4 rfl) ?_
                          have hJ25 : wX4_near p l e s m below meth c G h a0 x1 res 0 0 H locs (F0 m 139 ls [.int (if x2 ≤ (if (v18 - v19) ≤ 0 then iI 0 else (v18 - v19)) then x2 else (if (v18 - v19) ≤ 0 then iI 0 else (v18 - v19)))]) := by
                            refine lv_topi (fun x_27 ex_27 => ?_)
                            have ho11 := nmI_s ho11 x_27 ex_27
                            refine lv_istore_n (lv' := [(2, .int x_27), (3, .int x_24), (6, .int (if (v18 - v19) ≤ 0 then iI 0 else (v18 - v19))), (0, .ref a0), (1, .int x1), (4, .int x4), (5, .int x5)]) hx hb dX4_near_139 rfl hl (by decide) rfl (fun ls hl => ?_)
                            obtain rfl := Option.some.inj ho11
                            exact hJ11 _ _ _ hw (lv_sub hl [3, 4, 0, 1, 5, 6] rfl)
                          refine lv_icmp_ge (tgt := 138) hx hb dX4_near_130 (by decide) (fun c26 => ?_) (fun c26 => ?_)
                          · refine lv_iload_n hx hb dX4_near_138 rfl (lv_at hl 4 rfl) ?_
                            rw [if_pos c26] at hJ25
                            exact hJ25
                          · refine lv_iload hx hb dX4_near_133 (lv_at hl 1 rfl) ?_
                            refine lv_goto (tgt := 139) hx hb dX4_near_135 (by decide) ?_
                            rw [if_neg c26] at hJ25
                            exact hJ25
                        refine lv_icmp_ge (tgt := 125) hx hb dX4_near_111 (by decide) (fun c23 => ?_) (fun c23 => ?_)
                        · refine lv_iload_n hx hb dX4_near_125 rfl (lv_at hl 4 rfl) ?_
                          rw [if_pos c23] at hJ22
                          exact hJ22
                        · refine lv_bipush (v := iI 10) hx hb dX4_near_114 (by decide) ?_
                          refine lv_iload hx hb dX4_near_116 (lv_at hl 5 rfl) ?_
                          refine lv_imul hx hb dX4_near_118 ?_
                          refine lv_iload hx hb dX4_near_119 (lv_at hl 6 rfl) ?_
                          refine lv_iadd hx hb dX4_near_121 ?_
                          refine lv_goto (tgt := 126) hx hb dX4_near_122 (by decide) ?_
                          rw [if_neg c23] at hJ22
                          exact hJ22
                      refine lv_if_le (tgt := 105) hx hb dX4_near_97 (by decide) (fun c21 => ?_) (fun c21 => ?_)
                      · refine lv_iconst (v := iI 0) hx hb dX4_near_105 rfl ?_
                        rw [if_pos c21] at hJ20
                        exact hJ20
                      · refine lv_iload hx hb dX4_near_100 (lv_at hl 0 rfl) ?_
                        refine lv_goto (tgt := 106) hx hb dX4_near_102 (by decide) ?_
                        rw [if_neg c21] at hJ20
                        exact hJ20
          exact hL7 FUEL _ _ _ ho7 _ _ _ hw (lv_sub hl [1, 2, 3, 4, 5, 0] rfl)
    exact hL4 FUEL _ _ _ ho4 _ _ _ hw (lv_sub hl [3, 4, 2, 1, 0] rfl)
  · have hf := oi_t hf c2
    refine lv_iconst (v := iI (-1)) hx hb dX4_near_7 rfl ?_
    exact ep_retiW hx hb hr hlocks hw hf dX4_near_8
