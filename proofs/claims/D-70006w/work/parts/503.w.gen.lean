/-! walks (printed by gen.py) -/
set_option maxRecDepth 100000
theorem hdX0_goes : yX0_goes.cls = RX0 ∧ yX0_goes.cls ≠ "java/lang/invoke/MethodHandle" ∧ yX0_goes.cls ≠ "java/lang/invoke/VarHandle" ∧ (parseMethodDescriptor yX0_goes.desc).map (fun d => d.parameters.length) = some 2 := by decide +kernel
theorem ckX0_goes {h : Hp} {a0 : Nat} {a1 : Nat} {x2 : Int32} {res : Hp} (hf : fX0_goes h a0 a1 x2 = some res) : ep_cls h a0 = some 0 := by
  unfold fX0_goes at hf
  exact (oi_c hf).1
abbrev wX0_goes (p : Program) (l : Launch) (e : Env) (s : State) (m : MethodId) (below : List Frame) (meth : Method) (c : Code) (G : EG) (h : Hp) (a0 : Nat) (a1 : Nat) (x2 : Int32) (res : Hp) (k9 n9 : Nat) (H : Heap) (locs : List Loc) (g : JFrame) : Prop := W p l e (headSpec (ws_ yX0_goes cX0_goes 4 none) ({ frames := 6, cells := 0, slots := 0, locals := 166 } : Room)).room s m ([.ref a0, .ref a1, .int x2] : List Value).toArray below meth c H locs k9 n9 (MQ below (ep_Qv G ep_cl res) ([.ref a0, .ref a1, .int x2] : List Value).toArray s 0 0 (ep_A G)) g
set_option maxHeartbeats 4000000 in
theorem metX0_goes (l : Launch) (G : EG) (h : Hp) (a0 : Nat) (a1 : Nat) (x2 : Int32) {res : Hp} (hf : fX0_goes h a0 a1 x2 = some res) : Met l yX0_goes (ws_ yX0_goes cX0_goes 4 none) ({ frames := 6, cells := 0, slots := 0, locals := 166 } : Room) (ep_Pc G ep_cl h [.ref a0, .ref a1, .int x2]) (ep_Qv G ep_cl res) 0 0 (ep_A G) := by
  refine Met.ofW (cc := cX0_goes) (maxL := 4) (ret := none) (by decide) rfl ?_
  intro p e s m args below meth c s₁ B hml hv
  obtain ⟨rfl, hR, hK, hZ⟩ := hv
  have hx := B.exec
  have hb := B.bytes
  have hr := B.returns
  have hlocks := B.notSynchronized
  have hts := atoms_spec (ws := (ws_ yX0_goes cX0_goes 4 none)) B.pre
  have hts : ∀ w ∈ lw_all, w.before _ s = true := fun w h => hts w (List.mem_cons_of_mem _ h)
  have hown : s.vm.findClass RX0 = some m.cls := findClass_of_methodNamed B.named
  have hw : ep_W G ep_cl h s s.heap [] := ⟨hR, va_S.rf⟩
  have hl := lv_entry ([.ref a0, .ref a1, .int x2]) (n := 4) (Nat.le_of_ble_eq_true rfl)
  rw [lg_entry_eq]
  generalize (lg_sl ([.ref a0, .ref a1, .int x2]) ++ List.replicate (4 - (lg_sl ([.ref a0, .ref a1, .int x2])).length) Slot.unset).toArray = ls at hl ⊢
  have hl : lv_has ls 4 [(0, .ref a0), (1, .ref a1), (2, .int x2)] := hl
  unfold fX0_goes at hf
  have hf := (oi_c hf).2
  show wX0_goes p l e s m below meth c G h a0 a1 x2 res 0 0 s.heap ([]) (F0 m 0 ls [])
  refine lv_iconst (v := iI 0) hx hb dX0_goes_0 rfl ?_
  refine lv_istore_n (lv' := [(3, .int (iI 0)), (0, .ref a0), (1, .ref a1), (2, .int x2)]) hx hb dX0_goes_1 rfl hl (by decide) rfl (fun ls hl => ?_)
  obtain ⟨o1, ho1, hf⟩ := ob_s hf
  have hJ1 : ∀ (H : Heap) (locs : List Loc) (ls : Array Slot), ep_W G ep_cl o1 s H locs → lv_has ls 4 [] → wX0_goes p l e s m below meth c G h a0 a1 x2 res 0 0 H locs (F0 m 17 ls []) := by
    intro H locs ls hw hl
    exact ep_retvW hx hb hr hlocks hw hf dX0_goes_17
  have hL1 : ∀ (fu : Nat) (h : Hp) (x3 : Int32), fX0_goes_L2 a1 x2 fu h x3 = some o1 → ∀ (H : Heap) (locs : List Loc) (ls : Array Slot), ep_W G ep_cl h s H locs → lv_has ls 4 [(1, .ref a1), (2, .int x2), (3, .int x3)] → wX0_goes p l e s m below meth c G h a0 a1 x2 res 0 0 H locs (F0 m 2 ls []) := by
    intro fu
    induction fu with
    | zero => intro h x3 ho1; cases ho1
    | succ fu ih1 =>
      intro h x3 ho1 H locs ls hw hl
      rw [fX0_goes_L2] at ho1
      refine lv_iload_n hx hb dX0_goes_2 rfl (lv_at hl 2 rfl) ?_
      refine lv_iload_n hx hb dX0_goes_3 rfl (lv_at hl 1 rfl) ?_
      refine lv_icmp_ge (tgt := 17) hx hb dX0_goes_4 (by decide) (fun c2 => ?_) (fun c2 => ?_)
      · have ho1 := oi_t ho1 c2
        obtain rfl := Option.some.inj ho1
        exact hJ1 _ _ _ hw (lv_sub hl [] rfl)
      · have ho1 := oi_f ho1 c2
        refine lv_aload_n hx hb dX0_goes_7 rfl (lv_at hl 0 rfl) ?_
        obtain ⟨o3, eo3, ho1⟩ := ob_s ho1
        refine ep_callv0 (va_runV (As := []) (rest := []) ⟨hx, hb, hml, hown, hts⟩ (metX1_week l G h a1 eo3) (cwV 0 hts (lw_V q675 q676 q677 q86 q678) rfl rfl rfl hdX1_week ⟨Nat.le_of_ble_eq_true rfl, Nat.le_of_ble_eq_true rfl⟩) (ep_preV hK hZ hw rfl (ckX1_week eo3)) rfl rfl hl.1 rfl (lv_room (Nat.le_of_ble_eq_true rfl)) dX0_goes_8 ⟨Nat.le_of_ble_eq_true rfl, Nat.le_of_ble_eq_true rfl⟩) hw (fun H locs hw => ?_)
        refine lv_iinc (v := (x3 + iI 1)) (lv' := [(3, .int (x3 + iI 1)), (1, .ref a1), (2, .int x2)]) hx hb dX0_goes_11 hl (k := 2) rfl rfl (by decide) rfl (fun ls hl => ?_)
        refine lv_goto (tgt := 2) hx hb dX0_goes_14 (by decide) ?_
        exact ih1 _ _ ho1 _ _ _ hw (lv_sub hl [1, 2, 0] rfl)
  exact hL1 FUEL _ _ ho1 _ _ _ hw (lv_sub hl [2, 3, 0] rfl)
theorem hdX0_go : yX0_go.cls = RX0 ∧ yX0_go.cls ≠ "java/lang/invoke/MethodHandle" ∧ yX0_go.cls ≠ "java/lang/invoke/VarHandle" ∧ (parseMethodDescriptor yX0_go.desc).map (fun d => d.parameters.length) = some 1 := by decide +kernel
theorem ckX0_go {h : Hp} {a0 : Nat} {x1 : Int32} {res : Int32 × Hp} (hf : fX0_go h a0 x1 = some res) : ep_cls h a0 = some 0 := by
  unfold fX0_go at hf
  exact (oi_c hf).1
abbrev wX0_go (p : Program) (l : Launch) (e : Env) (s : State) (m : MethodId) (below : List Frame) (meth : Method) (c : Code) (G : EG) (h : Hp) (a0 : Nat) (x1 : Int32) (res : Int32 × Hp) (k9 n9 : Nat) (H : Heap) (locs : List Loc) (g : JFrame) : Prop := W p l e (headSpec (ws_ yX0_go cX0_go 3 (some .int)) ({ frames := 7, cells := 0, slots := 0, locals := 189 } : Room)).room s m ([.ref a0, .int x1] : List Value).toArray below meth c H locs k9 n9 (MQ below (ep_Qi G ep_cl res.2 res.1) ([.ref a0, .int x1] : List Value).toArray s 0 0 (ep_A G)) g
set_option maxHeartbeats 4000000 in
theorem metX0_go (l : Launch) (G : EG) (h : Hp) (a0 : Nat) (x1 : Int32) {res : Int32 × Hp} (hf : fX0_go h a0 x1 = some res) : Met l yX0_go (ws_ yX0_go cX0_go 3 (some .int)) ({ frames := 7, cells := 0, slots := 0, locals := 189 } : Room) (ep_Pc G ep_cl h [.ref a0, .int x1]) (ep_Qi G ep_cl res.2 res.1) 0 0 (ep_A G) := by
  refine Met.ofW (cc := cX0_go) (maxL := 3) (ret := (some .int)) (by decide) rfl ?_
  intro p e s m args below meth c s₁ B hml hv
  obtain ⟨rfl, hR, hK, hZ⟩ := hv
  have hx := B.exec
  have hb := B.bytes
  have hr := B.returns
  have hlocks := B.notSynchronized
  have hts := atoms_spec (ws := (ws_ yX0_go cX0_go 3 (some .int))) B.pre
  have hts : ∀ w ∈ lw_all, w.before _ s = true := fun w h => hts w (List.mem_cons_of_mem _ h)
  have hown : s.vm.findClass RX0 = some m.cls := findClass_of_methodNamed B.named
  have hw : ep_W G ep_cl h s s.heap [] := ⟨hR, va_S.rf⟩
  have hl := lv_entry ([.ref a0, .int x1]) (n := 3) (Nat.le_of_ble_eq_true rfl)
  rw [lg_entry_eq]
  generalize (lg_sl ([.ref a0, .int x1]) ++ List.replicate (3 - (lg_sl ([.ref a0, .int x1])).length) Slot.unset).toArray = ls at hl ⊢
  have hl : lv_has ls 3 [(0, .ref a0), (1, .int x1)] := hl
  unfold fX0_go at hf
  have hf := (oi_c hf).2
  show wX0_go p l e s m below meth c G h a0 x1 res 0 0 s.heap ([]) (F0 m 0 ls [])
  refine lv_iload_n hx hb dX0_go_0 rfl (lv_at hl 1 rfl) ?_
  refine lv_i2l (v := x1.toInt64) hx hb dX0_go_1 rfl ?_
  refine lv_lconst (v := lI 0) hx hb dX0_go_2 (by decide) ?_
  refine lv_ldc2 (v := (30 : Int64)) hx hb hown (hts _ q670) dX0_go_3 ?_
  obtain ⟨v1, ev1, hf⟩ := ob_s hf
  refine ep_calli0 (va_runS (As := [.long x1.toInt64, .long (lI 0), .long (30 : Int64)]) (rest := []) ⟨hx, hb, hml, hown, hts⟩ (metX0_isIn l G h x1.toInt64 (lI 0) (30 : Int64) ev1) (va_cwS 3 hts (lw_S q114 q115 q85 q116) rfl rfl rfl hsX0_isIn ⟨Nat.le_of_ble_eq_true rfl, Nat.le_of_ble_eq_true rfl⟩) (ep_preS hK hZ hw) rfl rfl hl.1 rfl (lv_room (Nat.le_of_ble_eq_true rfl)) dX0_go_6 ⟨Nat.le_of_ble_eq_true rfl, Nat.le_of_ble_eq_true rfl⟩) hw (fun H locs hw => ?_)
  refine lv_if_ne (tgt := 14) hx hb dX0_go_9 (by decide) (fun c2 => ?_) (fun c2 => ?_)
  · have hf := oi_f hf c2
    refine lv_aload_n hx hb dX0_go_14 rfl (lv_at hl 0 rfl) ?_
    obtain ⟨r3, er3, hf⟩ := ob_s hf
    refine ep_get (C := RX0) (T := TX0) (N := 25) (ci := 0) hx hb hts in_X0 hown hK hw rfl 3 (by decide) q930 (gR_f er3) dX0_go_15 ?_
    obtain ⟨v4, ev4, hf⟩ := ob_s hf
    refine ep_getN (C := RX1) (T := TX1) (N := 11) (ci := 1) hx hb hts in_X1 hown hK hw rfl 9 (by decide) q172 (gI_f ev4) dX0_go_18 ?_
    refine lv_iload_n hx hb dX0_go_21 rfl (lv_at hl 1 rfl) ?_
    refine lv_iadd hx hb dX0_go_22 ?_
    refine lv_sipush (v := iI 999) hx hb dX0_go_23 (by decide) ?_
    refine lv_icmp_le (tgt := 32) hx hb dX0_go_26 (by decide) (fun c5 => ?_) (fun c5 => ?_)
    · have hf := oi_t hf c5
      refine lv_aload_n hx hb dX0_go_32 rfl (lv_at hl 0 rfl) ?_
      obtain ⟨r6, er6, hf⟩ := ob_s hf
      refine ep_get (C := RX0) (T := TX0) (N := 25) (ci := 0) hx hb hts in_X0 hown hK hw rfl 3 (by decide) q930 (gR_f er6) dX0_go_33 ?_
      obtain ⟨v7, ev7, hf⟩ := ob_s hf
      refine ep_calli0 (va_runV (As := []) (rest := []) ⟨hx, hb, hml, hown, hts⟩ (metX1_silent l G h r6 ev7) (cwV 0 hts (lw_V q549 q550 q551 q86 q552) rfl rfl rfl hdX1_silent ⟨Nat.le_of_ble_eq_true rfl, Nat.le_of_ble_eq_true rfl⟩) (ep_preV hK hZ hw rfl (ckX1_silent ev7)) rfl rfl hl.1 rfl (lv_room (Nat.le_of_ble_eq_true rfl)) dX0_go_36 ⟨Nat.le_of_ble_eq_true rfl, Nat.le_of_ble_eq_true rfl⟩) hw (fun H locs hw => ?_)
      refine lv_istore_n (lv' := [(2, .int v7), (0, .ref a0), (1, .int x1)]) hx hb dX0_go_39 rfl hl (by decide) rfl (fun ls hl => ?_)
      refine lv_aload_n hx hb dX0_go_40 rfl (lv_at hl 1 rfl) ?_
      refine lv_aload_n hx hb dX0_go_41 rfl (lv_at hl 1 rfl) ?_
      obtain ⟨r8, er8, hf⟩ := ob_s hf
      refine ep_get (C := RX0) (T := TX0) (N := 25) (ci := 0) hx hb hts in_X0 hown hK hw rfl 3 (by decide) q930 (gR_f er8) dX0_go_42 ?_
      refine lv_iload_n hx hb dX0_go_45 rfl (lv_at hl 2 rfl) ?_
      obtain ⟨o9, eo9, hf⟩ := ob_s hf
      refine ep_callv0 (va_runV (As := [.ref r8, .int x1]) (rest := []) ⟨hx, hb, hml, hown, hts⟩ (metX0_goes l G h a0 r8 x1 eo9) (cwV 2 hts (lw_V q671 q673 qs19 q85 q674) rfl rfl rfl hdX0_goes ⟨Nat.le_of_ble_eq_true rfl, Nat.le_of_ble_eq_true rfl⟩) (ep_preV hK hZ hw rfl (ckX0_goes eo9)) rfl rfl hl.1 rfl (lv_room (Nat.le_of_ble_eq_true rfl)) dX0_go_46 ⟨Nat.le_of_ble_eq_true rfl, Nat.le_of_ble_eq_true rfl⟩) hw (fun H locs hw => ?_)
      refine lv_aload_n hx hb dX0_go_49 rfl (lv_at hl 1 rfl) ?_
      obtain ⟨r10, er10, hf⟩ := ob_s hf
      refine ep_get (C := RX0) (T := TX0) (N := 25) (ci := 0) hx hb hts in_X0 hown hK hw rfl 3 (by decide) q930 (gR_f er10) dX0_go_50 ?_
      obtain ⟨v11, ev11, hf⟩ := ob_s hf
      refine ep_calli0 (va_runV (As := []) (rest := []) ⟨hx, hb, hml, hown, hts⟩ (metX1_silent l G o9 r10 ev11) (cwV 0 hts (lw_V q549 q550 q551 q86 q552) rfl rfl rfl hdX1_silent ⟨Nat.le_of_ble_eq_true rfl, Nat.le_of_ble_eq_true rfl⟩) (ep_preV hK hZ hw rfl (ckX1_silent ev11)) rfl rfl hl.1 rfl (lv_room (Nat.le_of_ble_eq_true rfl)) dX0_go_53 ⟨Nat.le_of_ble_eq_true rfl, Nat.le_of_ble_eq_true rfl⟩) hw (fun H locs hw => ?_)
      refine lv_iload_n hx hb dX0_go_56 rfl (lv_at hl 0 rfl) ?_
      refine lv_iconst (v := iI (-1)) hx hb dX0_go_57 rfl ?_
      refine lv_ixor hx hb dX0_go_58 ?_
      refine lv_iand hx hb dX0_go_59 ?_
      obtain ⟨v12, ev12, hf⟩ := ob_s hf
      refine ep_calli0 (va_runS (As := [.int (v11 &&& (v7 ^^^ (iI (-1))))]) (rest := []) ⟨hx, hb, hml, hown, hts⟩ (metJ9_bitCount l G o9 (v11 &&& (v7 ^^^ (iI (-1)))) ev12) (va_cwS 1 hts (lw_S q634 q530 q103 q531) rfl rfl rfl hsJ9_bitCount ⟨Nat.le_of_ble_eq_true rfl, Nat.le_of_ble_eq_true rfl⟩) (ep_preS hK hZ hw) rfl rfl hl.1 rfl (lv_room (Nat.le_of_ble_eq_true rfl)) dX0_go_60 ⟨Nat.le_of_ble_eq_true rfl, Nat.le_of_ble_eq_true rfl⟩) hw (fun H locs hw => ?_)
      exact ep_retiW hx hb hr hlocks hw hf dX0_go_63
    · have hf := oi_f hf c5
      refine lv_bipush (v := iI (-3)) hx hb dX0_go_29 (by decide) ?_
      exact ep_retiW hx hb hr hlocks hw hf dX0_go_31
  · have hf := oi_t hf c2
    refine lv_iconst (v := iI (-1)) hx hb dX0_go_12 rfl ?_
    exact ep_retiW hx hb hr hlocks hw hf dX0_go_13
theorem hdX0_ahead : yX0_ahead.cls = RX0 ∧ yX0_ahead.cls ≠ "java/lang/invoke/MethodHandle" ∧ yX0_ahead.cls ≠ "java/lang/invoke/VarHandle" ∧ (parseMethodDescriptor yX0_ahead.desc).map (fun d => d.parameters.length) = some 3 := by decide +kernel
theorem ckX0_ahead {h : Hp} {a0 : Nat} {x1 : Int32} {x2 : Int32} {x3 : Int32} {res : Int32 × Hp} (hf : fX0_ahead h a0 x1 x2 x3 = some res) : ep_cls h a0 = some 0 := by
  unfold fX0_ahead at hf
  exact (oi_c hf).1
abbrev wX0_ahead (p : Program) (l : Launch) (e : Env) (s : State) (m : MethodId) (below : List Frame) (meth : Method) (c : Code) (G : EG) (h : Hp) (a0 : Nat) (x1 : Int32) (x2 : Int32) (x3 : Int32) (res : Int32 × Hp) (k9 n9 : Nat) (H : Heap) (locs : List Loc) (g : JFrame) : Prop := W p l e (headSpec (ws_ yX0_ahead cX0_ahead 4 (some .int)) ({ frames := 7, cells := 0, slots := 0, locals := 189 } : Room)).room s m ([.ref a0, .int x1, .int x2, .int x3] : List Value).toArray below meth c H locs k9 n9 (MQ below (ep_Qi G ep_cl res.2 res.1) ([.ref a0, .int x1, .int x2, .int x3] : List Value).toArray s 0 0 (ep_A G)) g
set_option maxHeartbeats 4000000 in
theorem metX0_ahead (l : Launch) (G : EG) (h : Hp) (a0 : Nat) (x1 : Int32) (x2 : Int32) (x3 : Int32) {res : Int32 × Hp} (hf : fX0_ahead h a0 x1 x2 x3 = some res) : Met l yX0_ahead (ws_ yX0_ahead cX0_ahead 4 (some .int)) ({ frames := 7, cells := 0, slots := 0, locals := 189 } : Room) (ep_Pc G ep_cl h [.ref a0, .int x1, .int x2, .int x3]) (ep_Qi G ep_cl res.2 res.1) 0 0 (ep_A G) := by
  refine Met.ofW (cc := cX0_ahead) (maxL := 4) (ret := (some .int)) (by decide) rfl ?_
  intro p e s m args below meth c s₁ B hml hv
  obtain ⟨rfl, hR, hK, hZ⟩ := hv
  have hx := B.exec
  have hb := B.bytes
  have hr := B.returns
  have hlocks := B.notSynchronized
  have hts := atoms_spec (ws := (ws_ yX0_ahead cX0_ahead 4 (some .int))) B.pre
  have hts : ∀ w ∈ lw_all, w.before _ s = true := fun w h => hts w (List.mem_cons_of_mem _ h)
  have hown : s.vm.findClass RX0 = some m.cls := findClass_of_methodNamed B.named
  have hw : ep_W G ep_cl h s s.heap [] := ⟨hR, va_S.rf⟩
  have hl := lv_entry ([.ref a0, .int x1, .int x2, .int x3]) (n := 4) (Nat.le_of_ble_eq_true rfl)
  rw [lg_entry_eq]
  generalize (lg_sl ([.ref a0, .int x1, .int x2, .int x3]) ++ List.replicate (4 - (lg_sl ([.ref a0, .int x1, .int x2, .int x3])).length) Slot.unset).toArray = ls at hl ⊢
  have hl : lv_has ls 4 [(0, .ref a0), (1, .int x1), (2, .int x2), (3, .int x3)] := hl
  unfold fX0_ahead at hf
  have hf := (oi_c hf).2
  show wX0_ahead p l e s m below meth c G h a0 x1 x2 x3 res 0 0 s.heap ([]) (F0 m 0 ls [])
  refine lv_aload_n hx hb dX0_ahead_0 rfl (lv_at hl 0 rfl) ?_
  refine lv_iload_n hx hb dX0_ahead_1 rfl (lv_at hl 1 rfl) ?_
  obtain ⟨v1, ev1, hf⟩ := ob_s hf
  refine ep_calli0 (va_runV (As := [.int x1]) (rest := []) ⟨hx, hb, hml, hown, hts⟩ (metX0_isEcho l G h a0 x1 ev1) (cwV 1 hts (lw_V q575 q577 qs15 q85 q578) rfl rfl rfl hdX0_isEcho ⟨Nat.le_of_ble_eq_true rfl, Nat.le_of_ble_eq_true rfl⟩) (ep_preV hK hZ hw rfl (ckX0_isEcho ev1)) rfl rfl hl.1 rfl (lv_room (Nat.le_of_ble_eq_true rfl)) dX0_ahead_2 ⟨Nat.le_of_ble_eq_true rfl, Nat.le_of_ble_eq_true rfl⟩) hw (fun H locs hw => ?_)
  refine lv_if_eq (tgt := 32) hx hb dX0_ahead_5 (by decide) (fun c2 => ?_) (fun c2 => ?_)
  · have hf := oi_t hf c2
    refine lv_iconst (v := iI (-1)) hx hb dX0_ahead_32 rfl ?_
    exact ep_retiW hx hb hr hlocks hw hf dX0_ahead_33
  · have hf := oi_f hf c2
    refine lv_iload_n hx hb dX0_ahead_8 rfl (lv_at hl 2 rfl) ?_
    refine lv_i2l (v := x2.toInt64) hx hb dX0_ahead_9 rfl ?_
    refine lv_lconst (v := lI 0) hx hb dX0_ahead_10 (by decide) ?_
    refine lv_ldc2 (v := (30 : Int64)) hx hb hown (hts _ q670) dX0_ahead_11 ?_
    obtain ⟨v3, ev3, hf⟩ := ob_s hf
    refine ep_calli0 (va_runS (As := [.long x2.toInt64, .long (lI 0), .long (30 : Int64)]) (rest := []) ⟨hx, hb, hml, hown, hts⟩ (metX0_isIn l G h x2.toInt64 (lI 0) (30 : Int64) ev3) (va_cwS 3 hts (lw_S q114 q115 q85 q116) rfl rfl rfl hsX0_isIn ⟨Nat.le_of_ble_eq_true rfl, Nat.le_of_ble_eq_true rfl⟩) (ep_preS hK hZ hw) rfl rfl hl.1 rfl (lv_room (Nat.le_of_ble_eq_true rfl)) dX0_ahead_14 ⟨Nat.le_of_ble_eq_true rfl, Nat.le_of_ble_eq_true rfl⟩) hw (fun H locs hw => ?_)
    refine lv_if_eq (tgt := 32) hx hb dX0_ahead_17 (by decide) (fun c4 => ?_) (fun c4 => ?_)
    · have hf := oi_t hf c4
      refine lv_iconst (v := iI (-1)) hx hb dX0_ahead_32 rfl ?_
      exact ep_retiW hx hb hr hlocks hw hf dX0_ahead_33
    · have hf := oi_f hf c4
      refine lv_iload_n hx hb dX0_ahead_20 rfl (lv_at hl 3 rfl) ?_
      refine lv_i2l (v := x3.toInt64) hx hb dX0_ahead_21 rfl ?_
      refine lv_lconst (v := lI 0) hx hb dX0_ahead_22 (by decide) ?_
      refine lv_ldc2 (v := (2 : Int64)) hx hb hown (hts _ q570) dX0_ahead_23 ?_
      obtain ⟨v5, ev5, hf⟩ := ob_s hf
      refine ep_calli0 (va_runS (As := [.long x3.toInt64, .long (lI 0), .long (2 : Int64)]) (rest := []) ⟨hx, hb, hml, hown, hts⟩ (metX0_isIn l G h x3.toInt64 (lI 0) (2 : Int64) ev5) (va_cwS 3 hts (lw_S q114 q115 q85 q116) rfl rfl rfl hsX0_isIn ⟨Nat.le_of_ble_eq_true rfl, Nat.le_of_ble_eq_true rfl⟩) (ep_preS hK hZ hw) rfl rfl hl.1 rfl (lv_room (Nat.le_of_ble_eq_true rfl)) dX0_ahead_26 ⟨Nat.le_of_ble_eq_true rfl, Nat.le_of_ble_eq_true rfl⟩) hw (fun H locs hw => ?_)
      refine lv_if_ne (tgt := 34) hx hb dX0_ahead_29 (by decide) (fun c6 => ?_) (fun c6 => ?_)
      · have hf := oi_f hf c6
        refine lv_aload_n hx hb dX0_ahead_34 rfl (lv_at hl 0 rfl) ?_
        obtain ⟨r7, er7, hf⟩ := ob_s hf
        refine ep_get (C := RX0) (T := TX0) (N := 25) (ci := 0) hx hb hts in_X0 hown hK hw rfl 7 (by decide) q934 (gR_f er7) dX0_ahead_35 ?_
        refine lv_aload_n hx hb dX0_ahead_38 rfl (lv_at hl 0 rfl) ?_
        obtain ⟨r8, er8, hf⟩ := ob_s hf
        refine ep_get (C := RX0) (T := TX0) (N := 25) (ci := 0) hx hb hts in_X0 hown hK hw rfl 3 (by decide) q930 (gR_f er8) dX0_ahead_39 ?_
        obtain ⟨o9, eo9, hf⟩ := ob_s hf
        refine ep_callv0 (va_runV (As := [.ref r8]) (rest := []) ⟨hx, hb, hml, hown, hts⟩ (metX1_takes l G h r7 r8 eo9) (cwV 1 hts (lw_V q535 q536 q537 q86 q538) rfl rfl rfl hdX1_takes ⟨Nat.le_of_ble_eq_true rfl, Nat.le_of_ble_eq_true rfl⟩) (ep_preV hK hZ hw rfl (ckX1_takes eo9)) rfl rfl hl.1 rfl (lv_room (Nat.le_of_ble_eq_true rfl)) dX0_ahead_42 ⟨Nat.le_of_ble_eq_true rfl, Nat.le_of_ble_eq_true rfl⟩) hw (fun H locs hw => ?_)
        refine lv_aload_n hx hb dX0_ahead_45 rfl (lv_at hl 0 rfl) ?_
        refine lv_aload_n hx hb dX0_ahead_46 rfl (lv_at hl 0 rfl) ?_
        obtain ⟨r10, er10, hf⟩ := ob_s hf
        refine ep_get (C := RX0) (T := TX0) (N := 25) (ci := 0) hx hb hts in_X0 hown hK hw rfl 7 (by decide) q934 (gR_f er10) dX0_ahead_47 ?_
        refine lv_iload_n hx hb dX0_ahead_50 rfl (lv_at hl 2 rfl) ?_
        obtain ⟨o11, eo11, hf⟩ := ob_s hf
        refine ep_callv0 (va_runV (As := [.ref r10, .int x2]) (rest := []) ⟨hx, hb, hml, hown, hts⟩ (metX0_goes l G o9 a0 r10 x2 eo11) (cwV 2 hts (lw_V q671 q673 qs19 q85 q674) rfl rfl rfl hdX0_goes ⟨Nat.le_of_ble_eq_true rfl, Nat.le_of_ble_eq_true rfl⟩) (ep_preV hK hZ hw rfl (ckX0_goes eo11)) rfl rfl hl.1 rfl (lv_room (Nat.le_of_ble_eq_true rfl)) dX0_ahead_51 ⟨Nat.le_of_ble_eq_true rfl, Nat.le_of_ble_eq_true rfl⟩) hw (fun H locs hw => ?_)
        refine lv_iload_n hx hb dX0_ahead_54 rfl (lv_at hl 3 rfl) ?_
        refine lv_if_ne (tgt := 70) hx hb dX0_ahead_55 (by decide) (fun c12 => ?_) (fun c12 => ?_)
        · have hf := oi_f hf c12
          refine lv_iload_n hx hb dX0_ahead_70 rfl (lv_at hl 3 rfl) ?_
          refine lv_iconst (v := iI 1) hx hb dX0_ahead_71 rfl ?_
          refine lv_icmp_ne (tgt := 87) hx hb dX0_ahead_72 (by decide) (fun c13 => ?_) (fun c13 => ?_)
          · have hf := oi_f hf c13
            refine lv_aload_n hx hb dX0_ahead_87 rfl (lv_at hl 0 rfl) ?_
            obtain ⟨r14, er14, hf⟩ := ob_s hf
            refine ep_get (C := RX0) (T := TX0) (N := 25) (ci := 0) hx hb hts in_X0 hown hK hw rfl 7 (by decide) q934 (gR_f er14) dX0_ahead_88 ?_
            refine lv_iload_n hx hb dX0_ahead_91 rfl (lv_at hl 1 rfl) ?_
            obtain ⟨v15, ev15, hf⟩ := ob_s hf
            refine ep_calli0 (va_runV (As := [.int x1]) (rest := []) ⟨hx, hb, hml, hown, hts⟩ (metX1_returns l G o11 r14 x1 ev15) (cwV 1 hts (lw_V q579 q580 q581 q86 q582) rfl rfl rfl hdX1_returns ⟨Nat.le_of_ble_eq_true rfl, Nat.le_of_ble_eq_true rfl⟩) (ep_preV hK hZ hw rfl (ckX1_returns ev15)) rfl rfl hl.1 rfl (lv_room (Nat.le_of_ble_eq_true rfl)) dX0_ahead_92 ⟨Nat.le_of_ble_eq_true rfl, Nat.le_of_ble_eq_true rfl⟩) hw (fun H locs hw => ?_)
            exact ep_retiW hx hb hr hlocks hw hf dX0_ahead_95
          · have hf := oi_t hf c13
            refine lv_aload_n hx hb dX0_ahead_75 rfl (lv_at hl 0 rfl) ?_
            obtain ⟨r16, er16, hf⟩ := ob_s hf
            refine ep_get (C := RX0) (T := TX0) (N := 25) (ci := 0) hx hb hts in_X0 hown hK hw rfl 7 (by decide) q934 (gR_f er16) dX0_ahead_76 ?_
            obtain ⟨r17, er17, hf⟩ := ob_s hf
            refine ep_getN (C := RX1) (T := TX1) (N := 11) (ci := 1) hx hb hts in_X1 hown hK hw rfl 4 (by decide) q159 (gR_f er17) dX0_ahead_79 ?_
            refine lv_iload_n hx hb dX0_ahead_82 rfl (lv_at hl 1 rfl) ?_
            obtain ⟨v18, ev18, hf⟩ := ob_s hf
            refine ep_iald hx hb hK hw ev18 dX0_ahead_83 ?_
            refine lv_goto (tgt := 95) hx hb dX0_ahead_84 (by decide) ?_
            exact ep_retiW hx hb hr hlocks hw hf dX0_ahead_95
        · have hf := oi_t hf c12
          refine lv_aload_n hx hb dX0_ahead_58 rfl (lv_at hl 0 rfl) ?_
          obtain ⟨r19, er19, hf⟩ := ob_s hf
          refine ep_get (C := RX0) (T := TX0) (N := 25) (ci := 0) hx hb hts in_X0 hown hK hw rfl 7 (by decide) q934 (gR_f er19) dX0_ahead_59 ?_
          obtain ⟨r20, er20, hf⟩ := ob_s hf
          refine ep_getN (C := RX1) (T := TX1) (N := 11) (ci := 1) hx hb hts in_X1 hown hK hw rfl 5 (by decide) q162 (gR_f er20) dX0_ahead_62 ?_
          refine lv_iload_n hx hb dX0_ahead_65 rfl (lv_at hl 1 rfl) ?_
          obtain ⟨v21, ev21, hf⟩ := ob_s hf
          refine ep_iald hx hb hK hw ev21 dX0_ahead_66 ?_
          refine lv_goto (tgt := 95) hx hb dX0_ahead_67 (by decide) ?_
          exact ep_retiW hx hb hr hlocks hw hf dX0_ahead_95
      · have hf := oi_t hf c6
        refine lv_iconst (v := iI (-1)) hx hb dX0_ahead_32 rfl ?_
        exact ep_retiW hx hb hr hlocks hw hf dX0_ahead_33
theorem hdX0_endsSo : yX0_endsSo.cls = RX0 ∧ yX0_endsSo.cls ≠ "java/lang/invoke/MethodHandle" ∧ yX0_endsSo.cls ≠ "java/lang/invoke/VarHandle" ∧ (parseMethodDescriptor yX0_endsSo.desc).map (fun d => d.parameters.length) = some 3 := by decide +kernel
theorem ckX0_endsSo {h : Hp} {a0 : Nat} {a1 : Nat} {x2 : Int32} {x3 : Int32} {res : Int32} (hf : fX0_endsSo h a0 a1 x2 x3 = some res) : ep_cls h a0 = some 0 := by
  unfold fX0_endsSo at hf
  exact (oi_c hf).1
abbrev wX0_endsSo (p : Program) (l : Launch) (e : Env) (s : State) (m : MethodId) (below : List Frame) (meth : Method) (c : Code) (G : EG) (h : Hp) (a0 : Nat) (a1 : Nat) (x2 : Int32) (x3 : Int32) (res : Int32) (k9 n9 : Nat) (H : Heap) (locs : List Loc) (g : JFrame) : Prop := W p l e (headSpec (ws_ yX0_endsSo cX0_endsSo 7 (some .boolean)) ({ frames := 0, cells := 0, slots := 0, locals := 0 } : Room)).room s m ([.ref a0, .ref a1, .int x2, .int x3] : List Value).toArray below meth c H locs k9 n9 (MQ below (ep_Qi G ep_cl h res) ([.ref a0, .ref a1, .int x2, .int x3] : List Value).toArray s 0 0 (ep_A G)) g
set_option maxHeartbeats 4000000 in
theorem metX0_endsSo (l : Launch) (G : EG) (h : Hp) (a0 : Nat) (a1 : Nat) (x2 : Int32) (x3 : Int32) {res : Int32} (hf : fX0_endsSo h a0 a1 x2 x3 = some res) : Met l yX0_endsSo (ws_ yX0_endsSo cX0_endsSo 7 (some .boolean)) ({ frames := 0, cells := 0, slots := 0, locals := 0 } : Room) (ep_Pc G ep_cl h [.ref a0, .ref a1, .int x2, .int x3]) (ep_Qi G ep_cl h res) 0 0 (ep_A G) := by
  refine Met.ofW (cc := cX0_endsSo) (maxL := 7) (ret := (some .boolean)) (by decide) rfl ?_
  intro p e s m args below meth c s₁ B hml hv
  obtain ⟨rfl, hR, hK, hZ⟩ := hv
  have hx := B.exec
  have hb := B.bytes
  have hr := B.returns
  have hlocks := B.notSynchronized
  have hts := atoms_spec (ws := (ws_ yX0_endsSo cX0_endsSo 7 (some .boolean))) B.pre
  have hts : ∀ w ∈ lw_all, w.before _ s = true := fun w h => hts w (List.mem_cons_of_mem _ h)
  have hown : s.vm.findClass RX0 = some m.cls := findClass_of_methodNamed B.named
  have hw : ep_W G ep_cl h s s.heap [] := ⟨hR, va_S.rf⟩
  have hl := lv_entry ([.ref a0, .ref a1, .int x2, .int x3]) (n := 7) (Nat.le_of_ble_eq_true rfl)
  rw [lg_entry_eq]
  generalize (lg_sl ([.ref a0, .ref a1, .int x2, .int x3]) ++ List.replicate (7 - (lg_sl ([.ref a0, .ref a1, .int x2, .int x3])).length) Slot.unset).toArray = ls at hl ⊢
  have hl : lv_has ls 7 [(0, .ref a0), (1, .ref a1), (2, .int x2), (3, .int x3)] := hl
  unfold fX0_endsSo at hf
  have hf := (oi_c hf).2
  show wX0_endsSo p l e s m below meth c G h a0 a1 x2 x3 res 0 0 s.heap ([]) (F0 m 0 ls [])
  refine lv_aload_n hx hb dX0_endsSo_0 rfl (lv_at hl 0 rfl) ?_
  obtain ⟨r1, er1, hf⟩ := ob_s hf
  refine ep_get (C := RX0) (T := TX0) (N := 25) (ci := 0) hx hb hts in_X0 hown hK hw rfl 5 (by decide) q932 (gR_f er1) dX0_endsSo_1 ?_
  refine lv_iload_n hx hb dX0_endsSo_4 rfl (lv_at hl 3 rfl) ?_
  obtain ⟨v2, ev2, hf⟩ := ob_s hf
  refine ep_aald 6 (by decide) rfl hx hb hK hw ev2 dX0_endsSo_5 ?_
  refine lv_astore (lv' := [(4, .ref v2), (0, .ref a0), (1, .ref a1), (2, .int x2), (3, .int x3)]) hx hb dX0_endsSo_6 hl (by decide) rfl (fun ls hl => ?_)
  refine lv_aload_n hx hb dX0_endsSo_8 rfl (lv_at hl 2 rfl) ?_
  obtain ⟨r3, er3, hf⟩ := ob_s hf
  refine ep_getN (C := RX1) (T := TX1) (N := 11) (ci := 1) hx hb hts in_X1 hown hK hw rfl 4 (by decide) q159 (gR_f er3) dX0_endsSo_9 ?_
  refine lv_iload_n hx hb dX0_endsSo_12 rfl (lv_at hl 3 rfl) ?_
  obtain ⟨v4, ev4, hf⟩ := ob_s hf
  refine ep_iald hx hb hK hw ev4 dX0_endsSo_13 ?_
  refine lv_aload hx hb dX0_endsSo_14 (lv_at hl 0 rfl) ?_
  obtain ⟨v5, ev5, hf⟩ := ob_s hf
  refine ep_getN (C := RX7) (T := TX7) (N := 4) (ci := 7) hx hb hts in_X7 hown hK hw rfl 1 (by decide) q511 (gI_f ev5) dX0_endsSo_16 ?_
  have hJ6 : wX0_endsSo p l e s m below meth c G h a0 a1 x2 x3 res 0 0 s.heap ([]) (F0 m 27 ls [.int (if v4 < v5 then iI 0 else iI 1)]) := by
    refine lv_istore (lv' := [(5, .int (if v4 < v5 then iI 0 else iI 1)), (4, .ref v2), (0, .ref a0), (1, .ref a1), (2, .int x2), (3, .int x3)]) hx hb dX0_endsSo_27 hl (by decide) rfl (fun ls hl => ?_)
    refine lv_iconst (v := iI 0) hx hb dX0_endsSo_29 rfl ?_
    refine lv_istore (lv' := [(6, .int (iI 0)), (5, .int (if v4 < v5 then iI 0 else iI 1)), (4, .ref v2), (0, .ref a0), (1, .ref a1), (2, .int x2), (3, .int x3)]) hx hb dX0_endsSo_30 hl (by decide) rfl (fun ls hl => ?_)
    obtain ⟨o8, ho8, hf⟩ := ob_s hf
    have hJ8 : ∀ (H : Heap) (locs : List Loc) (ls : Array Slot), ep_W G ep_cl h s H locs → lv_has ls 7 [(5, .int o8)] → wX0_endsSo p l e s m below meth c G h a0 a1 x2 x3 res 0 0 H locs (F0 m 93 ls []) := by
      intro H locs ls hw hl
      refine lv_iload hx hb dX0_endsSo_93 (lv_at hl 0 rfl) ?_
      obtain ⟨z, ez, hf⟩ := ob_s hf
      obtain ⟨hz, hn⟩ := ckZ_s ez
      rw [hz] at hf
      exact ep_retzR hx hb hr hn hlocks hw hf dX0_endsSo_95
    have hL8 : ∀ (fu : Nat) (x5 : Int32) (x6 : Int32), fX0_endsSo_L32 h a1 x2 v2 fu x5 x6 = some o8 → ∀ (H : Heap) (locs : List Loc) (ls : Array Slot), ep_W G ep_cl h s H locs → lv_has ls 7 [(1, .ref a1), (2, .int x2), (4, .ref v2), (5, .int x5), (6, .int x6)] → wX0_endsSo p l e s m below meth c G h a0 a1 x2 x3 res 0 0 H locs (F0 m 32 ls []) := by
      intro fu
      induction fu with
      | zero => intro x5 x6 ho8; cases ho8
      | succ fu ih8 =>
        intro x5 x6 ho8 H locs ls hw hl
        rw [fX0_endsSo_L32] at ho8
        refine lv_iload hx hb dX0_endsSo_32 (lv_at hl 4 rfl) ?_
        refine lv_aload hx hb dX0_endsSo_34 (lv_at hl 2 rfl) ?_
        obtain ⟨v9, ev9, ho8⟩ := ob_s ho8
        refine ep_getN (C := RX7) (T := TX7) (N := 4) (ci := 7) hx hb hts in_X7 hown hK hw rfl 1 (by decide) q511 (gI_f ev9) dX0_endsSo_36 ?_
        refine lv_icmp_ge (tgt := 93) hx hb dX0_endsSo_39 (by decide) (fun c10 => ?_) (fun c10 => ?_)
        · have ho8 := oi_t ho8 c10
          obtain rfl := Option.some.inj ho8
          exact hJ8 _ _ _ hw (lv_sub hl [3] rfl)
        · have ho8 := oi_f ho8 c10
          refine lv_iload hx hb dX0_endsSo_42 (lv_at hl 3 rfl) ?_
          refine lv_if_eq (tgt := 93) hx hb dX0_endsSo_44 (by decide) (fun c11 => ?_) (fun c11 => ?_)
          · have ho8 := oi_t ho8 c11
            obtain rfl := Option.some.inj ho8
            exact hJ8 _ _ _ hw (lv_sub hl [3] rfl)
          · have ho8 := oi_f ho8 c11
            refine lv_aload_n hx hb dX0_endsSo_47 rfl (lv_at hl 0 rfl) ?_
            obtain ⟨r12, er12, ho8⟩ := ob_s ho8
            refine ep_getN (C := RX1) (T := TX1) (N := 11) (ci := 1) hx hb hts in_X1 hown hK hw rfl 3 (by decide) q156 (gR_f er12) dX0_endsSo_48 ?_
            refine lv_iload_n hx hb dX0_endsSo_51 rfl (lv_at hl 1 rfl) ?_
            obtain ⟨v13, ev13, ho8⟩ := ob_s ho8
            refine ep_aald 4 (by decide) rfl hx hb hK hw ev13 dX0_endsSo_52 ?_
            refine lv_aload_n hx hb dX0_endsSo_53 rfl (lv_at hl 0 rfl) ?_
            obtain ⟨r14, er14, ho8⟩ := ob_s ho8
            refine ep_getN (C := RX1) (T := TX1) (N := 11) (ci := 1) hx hb hts in_X1 hown hK hw rfl 4 (by decide) q159 (gR_f er14) dX0_endsSo_54 ?_
            refine lv_iload_n hx hb dX0_endsSo_57 rfl (lv_at hl 1 rfl) ?_
            obtain ⟨v15, ev15, ho8⟩ := ob_s ho8
            refine ep_iald hx hb hK hw ev15 dX0_endsSo_58 ?_
            refine lv_aload hx hb dX0_endsSo_59 (lv_at hl 2 rfl) ?_
            obtain ⟨v16, ev16, ho8⟩ := ob_s ho8
            refine ep_getN (C := RX7) (T := TX7) (N := 4) (ci := 7) hx hb hts in_X7 hown hK hw rfl 1 (by decide) q511 (gI_f ev16) dX0_endsSo_61 ?_
            refine lv_isub hx hb dX0_endsSo_64 ?_
            refine lv_iload hx hb dX0_endsSo_65 (lv_at hl 4 rfl) ?_
            refine lv_iadd hx hb dX0_endsSo_67 ?_
            obtain ⟨v17, ev17, ho8⟩ := ob_s ho8
            refine ep_bald 1 (by decide) rfl hx hb hK hw ev17 dX0_endsSo_68 ?_
            refine lv_aload hx hb dX0_endsSo_69 (lv_at hl 2 rfl) ?_
            obtain ⟨r18, er18, ho8⟩ := ob_s ho8
            refine ep_getN (C := RX7) (T := TX7) (N := 4) (ci := 7) hx hb hts in_X7 hown hK hw rfl 0 (by decide) q509 (gR_f er18) dX0_endsSo_71 ?_
            refine lv_iload hx hb dX0_endsSo_74 (lv_at hl 4 rfl) ?_
            obtain ⟨v19, ev19, ho8⟩ := ob_s ho8
            refine ep_bald 1 (by decide) rfl hx hb hK hw ev19 dX0_endsSo_76 ?_
            have hJ20 : wX0_endsSo p l e s m below meth c G h a0 a1 x2 x3 res 0 0 H locs (F0 m 85 ls [.int (if v17 = v19 then iI 1 else iI 0)]) := by
              refine lv_istore (lv' := [(5, .int (if v17 = v19 then iI 1 else iI 0)), (1, .ref a1), (2, .int x2), (4, .ref v2), (6, .int x6)]) hx hb dX0_endsSo_85 hl (by decide) rfl (fun ls hl => ?_)
              refine lv_iinc (v := (x6 + iI 1)) (lv' := [(6, .int (x6 + iI 1)), (5, .int (if v17 = v19 then iI 1 else iI 0)), (1, .ref a1), (2, .int x2), (4, .ref v2)]) hx hb dX0_endsSo_87 hl (k := 4) rfl rfl (by decide) rfl (fun ls hl => ?_)
              refine lv_goto (tgt := 32) hx hb dX0_endsSo_90 (by decide) ?_
              exact ih8 _ _ ho8 _ _ _ hw (lv_sub hl [2, 3, 4, 1, 0] rfl)
            refine lv_icmp_ne (tgt := 84) hx hb dX0_endsSo_77 (by decide) (fun c21 => ?_) (fun c21 => ?_)
            · refine lv_iconst (v := iI 0) hx hb dX0_endsSo_84 rfl ?_
              rw [if_neg c21] at hJ20
              exact hJ20
            · refine lv_iconst (v := iI 1) hx hb dX0_endsSo_80 rfl ?_
              refine lv_goto (tgt := 85) hx hb dX0_endsSo_81 (by decide) ?_
              rw [if_pos c21] at hJ20
              exact hJ20
    exact hL8 FUEL _ _ ho8 _ _ _ hw (lv_sub hl [4, 5, 2, 1, 0] rfl)
  refine lv_icmp_lt (tgt := 26) hx hb dX0_endsSo_19 (by decide) (fun c7 => ?_) (fun c7 => ?_)
  · refine lv_iconst (v := iI 0) hx hb dX0_endsSo_26 rfl ?_
    rw [if_pos c7] at hJ6
    exact hJ6
  · refine lv_iconst (v := iI 1) hx hb dX0_endsSo_22 rfl ?_
    refine lv_goto (tgt := 27) hx hb dX0_endsSo_23 (by decide) ?_
    rw [if_neg c7] at hJ6
    exact hJ6
theorem hdX0_doesMeet : yX0_doesMeet.cls = RX0 ∧ yX0_doesMeet.cls ≠ "java/lang/invoke/MethodHandle" ∧ yX0_doesMeet.cls ≠ "java/lang/invoke/VarHandle" ∧ (parseMethodDescriptor yX0_doesMeet.desc).map (fun d => d.parameters.length) = some 3 := by decide +kernel
theorem ckX0_doesMeet {h : Hp} {a0 : Nat} {a1 : Nat} {x2 : Int32} {x3 : Int32} {res : Int32} (hf : fX0_doesMeet h a0 a1 x2 x3 = some res) : ep_cls h a0 = some 0 := by
  unfold fX0_doesMeet at hf
  exact (oi_c hf).1
abbrev wX0_doesMeet (p : Program) (l : Launch) (e : Env) (s : State) (m : MethodId) (below : List Frame) (meth : Method) (c : Code) (G : EG) (h : Hp) (a0 : Nat) (a1 : Nat) (x2 : Int32) (x3 : Int32) (res : Int32) (k9 n9 : Nat) (H : Heap) (locs : List Loc) (g : JFrame) : Prop := W p l e (headSpec (ws_ yX0_doesMeet cX0_doesMeet 4 (some .boolean)) ({ frames := 5, cells := 0, slots := 0, locals := 141 } : Room)).room s m ([.ref a0, .ref a1, .int x2, .int x3] : List Value).toArray below meth c H locs k9 n9 (MQ below (ep_Qi G ep_cl h res) ([.ref a0, .ref a1, .int x2, .int x3] : List Value).toArray s 0 0 (ep_A G)) g
set_option maxHeartbeats 4000000 in
theorem metX0_doesMeet (l : Launch) (G : EG) (h : Hp) (a0 : Nat) (a1 : Nat) (x2 : Int32) (x3 : Int32) {res : Int32} (hf : fX0_doesMeet h a0 a1 x2 x3 = some res) : Met l yX0_doesMeet (ws_ yX0_doesMeet cX0_doesMeet 4 (some .boolean)) ({ frames := 5, cells := 0, slots := 0, locals := 141 } : Room) (ep_Pc G ep_cl h [.ref a0, .ref a1, .int x2, .int x3]) (ep_Qi G ep_cl h res) 0 0 (ep_A G) := by
  refine Met.ofW (cc := cX0_doesMeet) (maxL := 4) (ret := (some .boolean)) (by decide) rfl ?_
  intro p e s m args below meth c s₁ B hml hv
  obtain ⟨rfl, hR, hK, hZ⟩ := hv
  have hx := B.exec
  have hb := B.bytes
  have hr := B.returns
  have hlocks := B.notSynchronized
  have hts := atoms_spec (ws := (ws_ yX0_doesMeet cX0_doesMeet 4 (some .boolean))) B.pre
  have hts : ∀ w ∈ lw_all, w.before _ s = true := fun w h => hts w (List.mem_cons_of_mem _ h)
  have hown : s.vm.findClass RX0 = some m.cls := findClass_of_methodNamed B.named
  have hw : ep_W G ep_cl h s s.heap [] := ⟨hR, va_S.rf⟩
  have hl := lv_entry ([.ref a0, .ref a1, .int x2, .int x3]) (n := 4) (Nat.le_of_ble_eq_true rfl)
  rw [lg_entry_eq]
  generalize (lg_sl ([.ref a0, .ref a1, .int x2, .int x3]) ++ List.replicate (4 - (lg_sl ([.ref a0, .ref a1, .int x2, .int x3])).length) Slot.unset).toArray = ls at hl ⊢
  have hl : lv_has ls 4 [(0, .ref a0), (1, .ref a1), (2, .int x2), (3, .int x3)] := hl
  unfold fX0_doesMeet at hf
  have hf := (oi_c hf).2
  show wX0_doesMeet p l e s m below meth c G h a0 a1 x2 x3 res 0 0 s.heap ([]) (F0 m 0 ls [])
  refine lv_aload_n hx hb dX0_doesMeet_0 rfl (lv_at hl 1 rfl) ?_
  obtain ⟨v1, ev1, hf⟩ := ob_s hf
  refine ep_getN (C := RX1) (T := TX1) (N := 11) (ci := 1) hx hb hts in_X1 hown hK hw rfl 8 (by decide) q170 (gI_f ev1) dX0_doesMeet_1 ?_
  refine lv_iload_n hx hb dX0_doesMeet_4 rfl (lv_at hl 3 rfl) ?_
  obtain ⟨v2, ev2, hf⟩ := ob_s hf
  refine ep_calli0 (va_runS (As := [.int v1, .int x3]) (rest := []) ⟨hx, hb, hml, hown, hts⟩ (metX0_has l G h v1 x3 ev2) (va_cwS 2 hts (lw_S q731 q427 q85 q428) rfl rfl rfl hsX0_has ⟨Nat.le_of_ble_eq_true rfl, Nat.le_of_ble_eq_true rfl⟩) (ep_preS hK hZ hw) rfl rfl hl.1 rfl (lv_room (Nat.le_of_ble_eq_true rfl)) dX0_doesMeet_5 ⟨Nat.le_of_ble_eq_true rfl, Nat.le_of_ble_eq_true rfl⟩) hw (fun H locs hw => ?_)
  refine lv_if_ne (tgt := 50) hx hb dX0_doesMeet_8 (by decide) (fun c3 => ?_) (fun c3 => ?_)
  · have hf := oi_f hf c3
    refine lv_iconst (v := iI 0) hx hb dX0_doesMeet_50 rfl ?_
    exact ep_retzR hx hb hr rfl hlocks hw hf dX0_doesMeet_51
  · have hf := oi_t hf c3
    refine lv_aload_n hx hb dX0_doesMeet_11 rfl (lv_at hl 1 rfl) ?_
    refine lv_iload_n hx hb dX0_doesMeet_12 rfl (lv_at hl 2 rfl) ?_
    obtain ⟨v4, ev4, hf⟩ := ob_s hf
    refine ep_calli0 (va_runV (As := [.int x2]) (rest := []) ⟨hx, hb, hml, hown, hts⟩ (metX1_isSold l G h a1 x2 ev4) (cwV 1 hts (lw_V q655 q554 q555 q86 q556) rfl rfl rfl hdX1_isSold ⟨Nat.le_of_ble_eq_true rfl, Nat.le_of_ble_eq_true rfl⟩) (ep_preV hK hZ hw rfl (ckX1_isSold ev4)) rfl rfl hl.1 rfl (lv_room (Nat.le_of_ble_eq_true rfl)) dX0_doesMeet_13 ⟨Nat.le_of_ble_eq_true rfl, Nat.le_of_ble_eq_true rfl⟩) hw (fun H locs hw => ?_)
    refine lv_if_ne (tgt := 50) hx hb dX0_doesMeet_16 (by decide) (fun c5 => ?_) (fun c5 => ?_)
    · have hf := oi_f hf c5
      refine lv_iconst (v := iI 0) hx hb dX0_doesMeet_50 rfl ?_
      exact ep_retzR hx hb hr rfl hlocks hw hf dX0_doesMeet_51
    · have hf := oi_t hf c5
      refine lv_aload_n hx hb dX0_doesMeet_19 rfl (lv_at hl 1 rfl) ?_
      refine lv_iload_n hx hb dX0_doesMeet_20 rfl (lv_at hl 2 rfl) ?_
      obtain ⟨v6, ev6, hf⟩ := ob_s hf
      refine ep_calli0 (va_runV (As := [.int x2]) (rest := []) ⟨hx, hb, hml, hown, hts⟩ (metX1_returns l G h a1 x2 ev6) (cwV 1 hts (lw_V q579 q580 q581 q86 q582) rfl rfl rfl hdX1_returns ⟨Nat.le_of_ble_eq_true rfl, Nat.le_of_ble_eq_true rfl⟩) (ep_preV hK hZ hw rfl (ckX1_returns ev6)) rfl rfl hl.1 rfl (lv_room (Nat.le_of_ble_eq_true rfl)) dX0_doesMeet_21 ⟨Nat.le_of_ble_eq_true rfl, Nat.le_of_ble_eq_true rfl⟩) hw (fun H locs hw => ?_)
      refine lv_aload_n hx hb dX0_doesMeet_24 rfl (lv_at hl 0 rfl) ?_
      obtain ⟨r7, er7, hf⟩ := ob_s hf
      refine ep_get (C := RX0) (T := TX0) (N := 25) (ci := 0) hx hb hts in_X0 hown hK hw rfl 5 (by decide) q932 (gR_f er7) dX0_doesMeet_25 ?_
      refine lv_iload_n hx hb dX0_doesMeet_28 rfl (lv_at hl 3 rfl) ?_
      obtain ⟨v8, ev8, hf⟩ := ob_s hf
      refine ep_aald 6 (by decide) rfl hx hb hK hw ev8 dX0_doesMeet_29 ?_
      obtain ⟨v9, ev9, hf⟩ := ob_s hf
      refine ep_getN (C := RX7) (T := TX7) (N := 4) (ci := 7) hx hb hts in_X7 hown hK hw rfl 2 (by decide) q513 (gI_f ev9) dX0_doesMeet_30 ?_
      refine lv_icmp_lt (tgt := 50) hx hb dX0_doesMeet_33 (by decide) (fun c10 => ?_) (fun c10 => ?_)
      · have hf := oi_t hf c10
        refine lv_iconst (v := iI 0) hx hb dX0_doesMeet_50 rfl ?_
        exact ep_retzR hx hb hr rfl hlocks hw hf dX0_doesMeet_51
      · have hf := oi_f hf c10
        refine lv_aload_n hx hb dX0_doesMeet_36 rfl (lv_at hl 0 rfl) ?_
        refine lv_aload_n hx hb dX0_doesMeet_37 rfl (lv_at hl 1 rfl) ?_
        refine lv_iload_n hx hb dX0_doesMeet_38 rfl (lv_at hl 2 rfl) ?_
        refine lv_iload_n hx hb dX0_doesMeet_39 rfl (lv_at hl 3 rfl) ?_
        obtain ⟨v11, ev11, hf⟩ := ob_s hf
        refine ep_calli0 (va_runV (As := [.ref a1, .int x2, .int x3]) (rest := []) ⟨hx, hb, hml, hown, hts⟩ (metX0_endsSo l G h a0 a1 x2 x3 ev11) (cwV 3 hts (lw_V q732 q734 qs23 q85 q735) rfl rfl rfl hdX0_endsSo ⟨Nat.le_of_ble_eq_true rfl, Nat.le_of_ble_eq_true rfl⟩) (ep_preV hK hZ hw rfl (ckX0_endsSo ev11)) rfl rfl hl.1 rfl (lv_room (Nat.le_of_ble_eq_true rfl)) dX0_doesMeet_40 ⟨Nat.le_of_ble_eq_true rfl, Nat.le_of_ble_eq_true rfl⟩) hw (fun H locs hw => ?_)
        refine lv_if_eq (tgt := 50) hx hb dX0_doesMeet_43 (by decide) (fun c12 => ?_) (fun c12 => ?_)
        · have hf := oi_t hf c12
          refine lv_iconst (v := iI 0) hx hb dX0_doesMeet_50 rfl ?_
          exact ep_retzR hx hb hr rfl hlocks hw hf dX0_doesMeet_51
        · have hf := oi_f hf c12
          refine lv_iconst (v := iI 1) hx hb dX0_doesMeet_46 rfl ?_
          refine lv_goto (tgt := 51) hx hb dX0_doesMeet_47 (by decide) ?_
          exact ep_retzR hx hb hr rfl hlocks hw hf dX0_doesMeet_51
theorem hdX0_when : yX0_when.cls = RX0 ∧ yX0_when.cls ≠ "java/lang/invoke/MethodHandle" ∧ yX0_when.cls ≠ "java/lang/invoke/VarHandle" ∧ (parseMethodDescriptor yX0_when.desc).map (fun d => d.parameters.length) = some 2 := by decide +kernel
theorem ckX0_when {h : Hp} {a0 : Nat} {x1 : Int32} {x2 : Int32} {res : Int32 × Hp} (hf : fX0_when h a0 x1 x2 = some res) : ep_cls h a0 = some 0 := by
  unfold fX0_when at hf
  exact (oi_c hf).1
abbrev wX0_when (p : Program) (l : Launch) (e : Env) (s : State) (m : MethodId) (below : List Frame) (meth : Method) (c : Code) (G : EG) (h : Hp) (a0 : Nat) (x1 : Int32) (x2 : Int32) (res : Int32 × Hp) (k9 n9 : Nat) (H : Heap) (locs : List Loc) (g : JFrame) : Prop := W p l e (headSpec (ws_ yX0_when cX0_when 4 (some .int)) ({ frames := 6, cells := 0, slots := 0, locals := 166 } : Room)).room s m ([.ref a0, .int x1, .int x2] : List Value).toArray below meth c H locs k9 n9 (MQ below (ep_Qi G ep_cl res.2 res.1) ([.ref a0, .int x1, .int x2] : List Value).toArray s 0 0 (ep_A G)) g
set_option maxHeartbeats 4000000 in
theorem metX0_when (l : Launch) (G : EG) (h : Hp) (a0 : Nat) (x1 : Int32) (x2 : Int32) {res : Int32 × Hp} (hf : fX0_when h a0 x1 x2 = some res) : Met l yX0_when (ws_ yX0_when cX0_when 4 (some .int)) ({ frames := 6, cells := 0, slots := 0, locals := 166 } : Room) (ep_Pc G ep_cl h [.ref a0, .int x1, .int x2]) (ep_Qi G ep_cl res.2 res.1) 0 0 (ep_A G) := by
  refine Met.ofW (cc := cX0_when) (maxL := 4) (ret := (some .int)) (by decide) rfl ?_
  intro p e s m args below meth c s₁ B hml hv
  obtain ⟨rfl, hR, hK, hZ⟩ := hv
  have hx := B.exec
  have hb := B.bytes
  have hr := B.returns
  have hlocks := B.notSynchronized
  have hts := atoms_spec (ws := (ws_ yX0_when cX0_when 4 (some .int))) B.pre
  have hts : ∀ w ∈ lw_all, w.before _ s = true := fun w h => hts w (List.mem_cons_of_mem _ h)
  have hown : s.vm.findClass RX0 = some m.cls := findClass_of_methodNamed B.named
  have hw : ep_W G ep_cl h s s.heap [] := ⟨hR, va_S.rf⟩
  have hl := lv_entry ([.ref a0, .int x1, .int x2]) (n := 4) (Nat.le_of_ble_eq_true rfl)
  rw [lg_entry_eq]
  generalize (lg_sl ([.ref a0, .int x1, .int x2]) ++ List.replicate (4 - (lg_sl ([.ref a0, .int x1, .int x2])).length) Slot.unset).toArray = ls at hl ⊢
  have hl : lv_has ls 4 [(0, .ref a0), (1, .int x1), (2, .int x2)] := hl
  unfold fX0_when at hf
  have hf := (oi_c hf).2
  show wX0_when p l e s m below meth c G h a0 x1 x2 res 0 0 s.heap ([]) (F0 m 0 ls [])
  refine lv_aload_n hx hb dX0_when_0 rfl (lv_at hl 0 rfl) ?_
  refine lv_iload_n hx hb dX0_when_1 rfl (lv_at hl 1 rfl) ?_
  obtain ⟨v1, ev1, hf⟩ := ob_s hf
  refine ep_calli0 (va_runV (As := [.int x1]) (rest := []) ⟨hx, hb, hml, hown, hts⟩ (metX0_isEcho l G h a0 x1 ev1) (cwV 1 hts (lw_V q575 q577 qs15 q85 q578) rfl rfl rfl hdX0_isEcho ⟨Nat.le_of_ble_eq_true rfl, Nat.le_of_ble_eq_true rfl⟩) (ep_preV hK hZ hw rfl (ckX0_isEcho ev1)) rfl rfl hl.1 rfl (lv_room (Nat.le_of_ble_eq_true rfl)) dX0_when_2 ⟨Nat.le_of_ble_eq_true rfl, Nat.le_of_ble_eq_true rfl⟩) hw (fun H locs hw => ?_)
  refine lv_if_eq (tgt := 16) hx hb dX0_when_5 (by decide) (fun c2 => ?_) (fun c2 => ?_)
  · have hf := oi_t hf c2
    refine lv_iconst (v := iI (-1)) hx hb dX0_when_16 rfl ?_
    exact ep_retiW hx hb hr hlocks hw hf dX0_when_17
  · have hf := oi_f hf c2
    refine lv_aload_n hx hb dX0_when_8 rfl (lv_at hl 0 rfl) ?_
    refine lv_iload_n hx hb dX0_when_9 rfl (lv_at hl 2 rfl) ?_
    obtain ⟨v3, ev3, hf⟩ := ob_s hf
    refine ep_calli0 (va_runV (As := [.int x2]) (rest := []) ⟨hx, hb, hml, hown, hts⟩ (metX0_isOrder l G h a0 x2 ev3) (cwV 1 hts (lw_V q617 q619 qs16 q85 q620) rfl rfl rfl hdX0_isOrder ⟨Nat.le_of_ble_eq_true rfl, Nat.le_of_ble_eq_true rfl⟩) (ep_preV hK hZ hw rfl (ckX0_isOrder ev3)) rfl rfl hl.1 rfl (lv_room (Nat.le_of_ble_eq_true rfl)) dX0_when_10 ⟨Nat.le_of_ble_eq_true rfl, Nat.le_of_ble_eq_true rfl⟩) hw (fun H locs hw => ?_)
    refine lv_if_ne (tgt := 18) hx hb dX0_when_13 (by decide) (fun c4 => ?_) (fun c4 => ?_)
    · have hf := oi_f hf c4
      refine lv_aload_n hx hb dX0_when_18 rfl (lv_at hl 0 rfl) ?_
      obtain ⟨r5, er5, hf⟩ := ob_s hf
      refine ep_get (C := RX0) (T := TX0) (N := 25) (ci := 0) hx hb hts in_X0 hown hK hw rfl 7 (by decide) q934 (gR_f er5) dX0_when_19 ?_
      refine lv_aload_n hx hb dX0_when_22 rfl (lv_at hl 0 rfl) ?_
      obtain ⟨r6, er6, hf⟩ := ob_s hf
      refine ep_get (C := RX0) (T := TX0) (N := 25) (ci := 0) hx hb hts in_X0 hown hK hw rfl 3 (by decide) q930 (gR_f er6) dX0_when_23 ?_
      obtain ⟨o7, eo7, hf⟩ := ob_s hf
      refine ep_callv0 (va_runV (As := [.ref r6]) (rest := []) ⟨hx, hb, hml, hown, hts⟩ (metX1_takes l G h r5 r6 eo7) (cwV 1 hts (lw_V q535 q536 q537 q86 q538) rfl rfl rfl hdX1_takes ⟨Nat.le_of_ble_eq_true rfl, Nat.le_of_ble_eq_true rfl⟩) (ep_preV hK hZ hw rfl (ckX1_takes eo7)) rfl rfl hl.1 rfl (lv_room (Nat.le_of_ble_eq_true rfl)) dX0_when_26 ⟨Nat.le_of_ble_eq_true rfl, Nat.le_of_ble_eq_true rfl⟩) hw (fun H locs hw => ?_)
      refine lv_iconst (v := iI 0) hx hb dX0_when_29 rfl ?_
      refine lv_istore_n (lv' := [(3, .int (iI 0)), (0, .ref a0), (1, .int x1), (2, .int x2)]) hx hb dX0_when_30 rfl hl (by decide) rfl (fun ls hl => ?_)
      obtain ⟨ox8, ho8, hk8⟩ := orL_s hf
      have hT8 : ∀ r, ox8 = .inl r → some r = some res := fun r eo => (by have e := orL_1 hk8 eo; exact e)
      have hJ8 : ∀ o8, ox8 = .inr o8 → ∀ (H : Heap) (locs : List Loc) (ls : Array Slot), ep_W G ep_cl o8 s H locs → lv_has ls 4 [] → wX0_when p l e s m below meth c G h a0 x1 x2 res 0 0 H locs (F0 m 65 ls []) := by
        intro o8 eo H locs ls hw hl
        have hf := orL_2 hk8 eo
        refine lv_bipush (v := iI (-4)) hx hb dX0_when_65 (by decide) ?_
        exact ep_retiW hx hb hr hlocks hw hf dX0_when_67
      have hL8 : ∀ (fu : Nat) (h : Hp) (x3 : Int32), fX0_when_L31 a0 x1 x2 fu h x3 = some ox8 → ∀ (H : Heap) (locs : List Loc) (ls : Array Slot), ep_W G ep_cl h s H locs → lv_has ls 4 [(0, .ref a0), (1, .int x1), (2, .int x2), (3, .int x3)] → wX0_when p l e s m below meth c G h a0 x1 x2 res 0 0 H locs (F0 m 31 ls []) := by
        intro fu
        induction fu with
        | zero => intro h x3 ho8; cases ho8
        | succ fu ih8 =>
          intro h x3 ho8 H locs ls hw hl
          rw [fX0_when_L31] at ho8
          refine lv_iload_n hx hb dX0_when_31 rfl (lv_at hl 3 rfl) ?_
          refine lv_bipush (v := iI 30) hx hb dX0_when_32 (by decide) ?_
          refine lv_icmp_gt (tgt := 65) hx hb dX0_when_34 (by decide) (fun c9 => ?_) (fun c9 => ?_)
          · have ho8 := oi_t ho8 c9
            exact hJ8 _ (Option.some.inj ho8).symm _ _ _ hw (lv_sub hl [] rfl)
          · have ho8 := oi_f ho8 c9
            refine lv_aload_n hx hb dX0_when_37 rfl (lv_at hl 0 rfl) ?_
            refine lv_aload_n hx hb dX0_when_38 rfl (lv_at hl 0 rfl) ?_
            obtain ⟨r10, er10, ho8⟩ := ob_s ho8
            refine ep_get (C := RX0) (T := TX0) (N := 25) (ci := 0) hx hb hts in_X0 hown hK hw rfl 7 (by decide) q934 (gR_f er10) dX0_when_39 ?_
            refine lv_iload_n hx hb dX0_when_42 rfl (lv_at hl 1 rfl) ?_
            refine lv_iload_n hx hb dX0_when_43 rfl (lv_at hl 2 rfl) ?_
            obtain ⟨v11, ev11, ho8⟩ := ob_s ho8
            refine ep_calli0 (va_runV (As := [.ref r10, .int x1, .int x2]) (rest := []) ⟨hx, hb, hml, hown, hts⟩ (metX0_doesMeet l G h a0 r10 x1 x2 ev11) (cwV 3 hts (lw_V q727 q729 qs22 q85 q730) rfl rfl rfl hdX0_doesMeet ⟨Nat.le_of_ble_eq_true rfl, Nat.le_of_ble_eq_true rfl⟩) (ep_preV hK hZ hw rfl (ckX0_doesMeet ev11)) rfl rfl hl.1 rfl (lv_room (Nat.le_of_ble_eq_true rfl)) dX0_when_44 ⟨Nat.le_of_ble_eq_true rfl, Nat.le_of_ble_eq_true rfl⟩) hw (fun H locs hw => ?_)
            refine lv_if_eq (tgt := 52) hx hb dX0_when_47 (by decide) (fun c12 => ?_) (fun c12 => ?_)
            · have ho8 := oi_t ho8 c12
              refine lv_aload_n hx hb dX0_when_52 rfl (lv_at hl 0 rfl) ?_
              obtain ⟨r13, er13, ho8⟩ := ob_s ho8
              refine ep_get (C := RX0) (T := TX0) (N := 25) (ci := 0) hx hb hts in_X0 hown hK hw rfl 7 (by decide) q934 (gR_f er13) dX0_when_53 ?_
              obtain ⟨o14, eo14, ho8⟩ := ob_s ho8
              refine ep_callv0 (va_runV (As := []) (rest := []) ⟨hx, hb, hml, hown, hts⟩ (metX1_week l G h r13 eo14) (cwV 0 hts (lw_V q675 q676 q677 q86 q678) rfl rfl rfl hdX1_week ⟨Nat.le_of_ble_eq_true rfl, Nat.le_of_ble_eq_true rfl⟩) (ep_preV hK hZ hw rfl (ckX1_week eo14)) rfl rfl hl.1 rfl (lv_room (Nat.le_of_ble_eq_true rfl)) dX0_when_56 ⟨Nat.le_of_ble_eq_true rfl, Nat.le_of_ble_eq_true rfl⟩) hw (fun H locs hw => ?_)
              refine lv_iinc (v := (x3 + iI 1)) (lv' := [(3, .int (x3 + iI 1)), (0, .ref a0), (1, .int x1), (2, .int x2)]) hx hb dX0_when_59 hl (k := 3) rfl rfl (by decide) rfl (fun ls hl => ?_)
              refine lv_goto (tgt := 31) hx hb dX0_when_62 (by decide) ?_
              exact ih8 _ _ ho8 _ _ _ hw (lv_sub hl [1, 2, 3, 0] rfl)
            · have ho8 := oi_f ho8 c12
              refine lv_iload_n hx hb dX0_when_50 rfl (lv_at hl 3 rfl) ?_
              exact ep_retiW hx hb hr hlocks hw (hT8 _ (Option.some.inj ho8).symm) dX0_when_51
      exact hL8 FUEL _ _ ho8 _ _ _ hw (lv_sub hl [1, 2, 3, 0] rfl)
    · have hf := oi_t hf c4
      refine lv_iconst (v := iI (-1)) hx hb dX0_when_16 rfl ?_
      exact ep_retiW hx hb hr hlocks hw hf dX0_when_17
theorem hdX1_isHeard : yX1_isHeard.cls = RX1 ∧ yX1_isHeard.cls ≠ "java/lang/invoke/MethodHandle" ∧ yX1_isHeard.cls ≠ "java/lang/invoke/VarHandle" ∧ (parseMethodDescriptor yX1_isHeard.desc).map (fun d => d.parameters.length) = some 2 := by decide +kernel
theorem ckX1_isHeard {h : Hp} {a0 : Nat} {x1 : Int32} {x2 : Int32} {res : Int32} (hf : fX1_isHeard h a0 x1 x2 = some res) : ep_cls h a0 = some 1 := by
  unfold fX1_isHeard at hf
  exact (oi_c hf).1
abbrev wX1_isHeard (p : Program) (l : Launch) (e : Env) (s : State) (m : MethodId) (below : List Frame) (meth : Method) (c : Code) (G : EG) (h : Hp) (a0 : Nat) (x1 : Int32) (x2 : Int32) (res : Int32) (k9 n9 : Nat) (H : Heap) (locs : List Loc) (g : JFrame) : Prop := W p l e (headSpec (ws_ yX1_isHeard cX1_isHeard 5 (some .boolean)) ({ frames := 5, cells := 0, slots := 0, locals := 141 } : Room)).room s m ([.ref a0, .int x1, .int x2] : List Value).toArray below meth c H locs k9 n9 (MQ below (ep_Qi G ep_cl h res) ([.ref a0, .int x1, .int x2] : List Value).toArray s 0 0 (ep_A G)) g
set_option maxHeartbeats 4000000 in
theorem metX1_isHeard (l : Launch) (G : EG) (h : Hp) (a0 : Nat) (x1 : Int32) (x2 : Int32) {res : Int32} (hf : fX1_isHeard h a0 x1 x2 = some res) : Met l yX1_isHeard (ws_ yX1_isHeard cX1_isHeard 5 (some .boolean)) ({ frames := 5, cells := 0, slots := 0, locals := 141 } : Room) (ep_Pc G ep_cl h [.ref a0, .int x1, .int x2]) (ep_Qi G ep_cl h res) 0 0 (ep_A G) := by
  refine Met.ofW (cc := cX1_isHeard) (maxL := 5) (ret := (some .boolean)) (by decide) rfl ?_
  intro p e s m args below meth c s₁ B hml hv
  obtain ⟨rfl, hR, hK, hZ⟩ := hv
  have hx := B.exec
  have hb := B.bytes
  have hr := B.returns
  have hlocks := B.notSynchronized
  have hts := atoms_spec (ws := (ws_ yX1_isHeard cX1_isHeard 5 (some .boolean))) B.pre
  have hts : ∀ w ∈ lw_all, w.before _ s = true := fun w h => hts w (List.mem_cons_of_mem _ h)
  have hown : s.vm.findClass RX1 = some m.cls := findClass_of_methodNamed B.named
  have hw : ep_W G ep_cl h s s.heap [] := ⟨hR, va_S.rf⟩
  have hl := lv_entry ([.ref a0, .int x1, .int x2]) (n := 5) (Nat.le_of_ble_eq_true rfl)
  rw [lg_entry_eq]
  generalize (lg_sl ([.ref a0, .int x1, .int x2]) ++ List.replicate (5 - (lg_sl ([.ref a0, .int x1, .int x2])).length) Slot.unset).toArray = ls at hl ⊢
  have hl : lv_has ls 5 [(0, .ref a0), (1, .int x1), (2, .int x2)] := hl
  unfold fX1_isHeard at hf
  have hf := (oi_c hf).2
  show wX1_isHeard p l e s m below meth c G h a0 x1 x2 res 0 0 s.heap ([]) (F0 m 0 ls [])
  refine lv_aload_n hx hb dX1_isHeard_0 rfl (lv_at hl 0 rfl) ?_
  obtain ⟨r1, er1, hf⟩ := ob_s hf
  refine ep_get (C := RX1) (T := TX1) (N := 11) (ci := 1) hx hb hts in_X1 hown hK hw rfl 2 (by decide) q151 (gR_f er1) dX1_isHeard_1 ?_
  refine lv_iload_n hx hb dX1_isHeard_4 rfl (lv_at hl 1 rfl) ?_
  obtain ⟨v2, ev2, hf⟩ := ob_s hf
  refine ep_iald hx hb hK hw ev2 dX1_isHeard_5 ?_
  refine lv_iconst (v := iI 2) hx hb dX1_isHeard_6 rfl ?_
  have hJ3 : wX1_isHeard p l e s m below meth c G h a0 x1 x2 res 0 0 s.heap ([]) (F0 m 15 ls [.int (if v2 = (iI 2) then iI 1 else iI 0)]) := by
    refine lv_istore_n (lv' := [(3, .int (if v2 = (iI 2) then iI 1 else iI 0)), (0, .ref a0), (1, .int x1), (2, .int x2)]) hx hb dX1_isHeard_15 rfl hl (by decide) rfl (fun ls hl => ?_)
    refine lv_aload_n hx hb dX1_isHeard_16 rfl (lv_at hl 1 rfl) ?_
    refine lv_iload_n hx hb dX1_isHeard_17 rfl (lv_at hl 2 rfl) ?_
    obtain ⟨v5, ev5, hf⟩ := ob_s hf
    refine ep_calli0 (va_runV (As := [.int x1]) (rest := []) ⟨hx, hb, hml, hown, hts⟩ (metX1_returns l G h a0 x1 ev5) (cwV 1 hts (lw_V q748 q580 q581 q86 q582) rfl rfl rfl hdX1_returns ⟨Nat.le_of_ble_eq_true rfl, Nat.le_of_ble_eq_true rfl⟩) (ep_preV hK hZ hw rfl (ckX1_returns ev5)) rfl rfl hl.1 rfl (lv_room (Nat.le_of_ble_eq_true rfl)) dX1_isHeard_18 ⟨Nat.le_of_ble_eq_true rfl, Nat.le_of_ble_eq_true rfl⟩) hw (fun H locs hw => ?_)
    refine lv_istore (lv' := [(4, .int v5), (3, .int (if v2 = (iI 2) then iI 1 else iI 0)), (0, .ref a0), (1, .int x1), (2, .int x2)]) hx hb dX1_isHeard_21 hl (by decide) rfl (fun ls hl => ?_)
    refine lv_iload hx hb dX1_isHeard_23 (lv_at hl 0 rfl) ?_
    refine lv_if_le (tgt := 80) hx hb dX1_isHeard_25 (by decide) (fun c6 => ?_) (fun c6 => ?_)
    · have hf := oi_t hf c6
      refine lv_iconst (v := iI 0) hx hb dX1_isHeard_80 rfl ?_
      exact ep_retzR hx hb hr rfl hlocks hw hf dX1_isHeard_81
    · have hf := oi_f hf c6
      refine lv_iload_n hx hb dX1_isHeard_28 rfl (lv_at hl 4 rfl) ?_
      refine lv_aload_n hx hb dX1_isHeard_29 rfl (lv_at hl 2 rfl) ?_
      refine lv_iload_n hx hb dX1_isHeard_30 rfl (lv_at hl 3 rfl) ?_
      obtain ⟨v7, ev7, hf⟩ := ob_s hf
      refine ep_calli0 (va_runV (As := [.int x1]) (rest := [.int x2]) ⟨hx, hb, hml, hown, hts⟩ (metX1_period l G h a0 x1 ev7) (cwV 1 hts (lw_V q749 q606 q607 q86 q608) rfl rfl rfl hdX1_period ⟨Nat.le_of_ble_eq_true rfl, Nat.le_of_ble_eq_true rfl⟩) (ep_preV hK hZ hw rfl (ckX1_period ev7)) rfl rfl hl.1 rfl (lv_room (Nat.le_of_ble_eq_true rfl)) dX1_isHeard_31 ⟨Nat.le_of_ble_eq_true rfl, Nat.le_of_ble_eq_true rfl⟩) hw (fun H locs hw => ?_)
      obtain ⟨v8, ev8, hf⟩ := ob_s hf
      refine ep_irem hx hb ev8 dX1_isHeard_34 ?_
      refine lv_if_ne (tgt := 80) hx hb dX1_isHeard_35 (by decide) (fun c9 => ?_) (fun c9 => ?_)
      · have hf := oi_f hf c9
        refine lv_iconst (v := iI 0) hx hb dX1_isHeard_80 rfl ?_
        exact ep_retzR hx hb hr rfl hlocks hw hf dX1_isHeard_81
      · have hf := oi_t hf c9
        refine lv_iload_n hx hb dX1_isHeard_38 rfl (lv_at hl 4 rfl) ?_
        refine lv_aload_n hx hb dX1_isHeard_39 rfl (lv_at hl 2 rfl) ?_
        refine lv_iload_n hx hb dX1_isHeard_40 rfl (lv_at hl 3 rfl) ?_
        obtain ⟨v10, ev10, hf⟩ := ob_s hf
        refine ep_calli0 (va_runV (As := [.int x1]) (rest := [.int x2]) ⟨hx, hb, hml, hown, hts⟩ (metX1_period l G h a0 x1 ev10) (cwV 1 hts (lw_V q749 q606 q607 q86 q608) rfl rfl rfl hdX1_period ⟨Nat.le_of_ble_eq_true rfl, Nat.le_of_ble_eq_true rfl⟩) (ep_preV hK hZ hw rfl (ckX1_period ev10)) rfl rfl hl.1 rfl (lv_room (Nat.le_of_ble_eq_true rfl)) dX1_isHeard_41 ⟨Nat.le_of_ble_eq_true rfl, Nat.le_of_ble_eq_true rfl⟩) hw (fun H locs hw => ?_)
        obtain ⟨v11, ev11, hf⟩ := ob_s hf
        refine ep_idiv hx hb ev11 dX1_isHeard_44 ?_
        refine lv_i2l (v := v11.toInt64) hx hb dX1_isHeard_45 rfl ?_
        refine lv_iload_n hx hb dX1_isHeard_46 rfl (lv_at hl 1 rfl) ?_
        have hJ12 : wX1_isHeard p l e s m below meth c G h a0 x1 x2 res 0 0 H locs (F0 m 55 ls [.long (if (if v2 = (iI 2) then iI 1 else iI 0) = 0 then lI 1 else lI 0), .long v11.toInt64]) := by
          refine lv_iload_n hx hb dX1_isHeard_55 rfl (lv_at hl 1 rfl) ?_
          have hJ14 : wX1_isHeard p l e s m below meth c G h a0 x1 x2 res 0 0 H locs (F0 m 70 ls [.long (if (if v2 = (iI 2) then iI 1 else iI 0) = 0 then v5.toInt64 else (v5 - (iI 1)).toInt64), .long (if (if v2 = (iI 2) then iI 1 else iI 0) = 0 then lI 1 else lI 0), .long v11.toInt64]) := by
            obtain ⟨v16, ev16, hf⟩ := ob_s hf
            refine ep_calli0 (va_runSN (As := [.long v11.toInt64, .long (if (if v2 = (iI 2) then iI 1 else iI 0) = 0 then lI 1 else lI 0), .long (if (if v2 = (iI 2) then iI 1 else iI 0) = 0 then v5.toInt64 else (v5 - (iI 1)).toInt64)]) (rest := []) ⟨hx, hb, hml, hown, hts⟩ (metX0_isIn l G h v11.toInt64 (if (if v2 = (iI 2) then iI 1 else iI 0) = 0 then lI 1 else lI 0) (if (if v2 = (iI 2) then iI 1 else iI 0) = 0 then v5.toInt64 else (v5 - (iI 1)).toInt64) ev16) ⟨va_cnB 3 hts (lw_meth q116) rfl rfl rfl (hK.nest q750 rfl) (hts _ q85) hsX0_isIn ⟨Nat.le_of_ble_eq_true rfl, Nat.le_of_ble_eq_true rfl⟩, hts _ q115, trivial⟩ (ep_preS hK hZ hw) rfl rfl hl.1 rfl (lv_room (Nat.le_of_ble_eq_true rfl)) dX1_isHeard_70 ⟨Nat.le_of_ble_eq_true rfl, Nat.le_of_ble_eq_true rfl⟩) hw (fun H locs hw => ?_)
            refine lv_if_eq (tgt := 80) hx hb dX1_isHeard_73 (by decide) (fun c17 => ?_) (fun c17 => ?_)
            · have hf := oi_t hf c17
              refine lv_iconst (v := iI 0) hx hb dX1_isHeard_80 rfl ?_
              exact ep_retzR hx hb hr rfl hlocks hw hf dX1_isHeard_81
            · have hf := oi_f hf c17
              refine lv_iconst (v := iI 1) hx hb dX1_isHeard_76 rfl ?_
              refine lv_goto (tgt := 81) hx hb dX1_isHeard_77 (by decide) ?_
              exact ep_retzR hx hb hr rfl hlocks hw hf dX1_isHeard_81
          refine lv_if_eq (tgt := 67) hx hb dX1_isHeard_56 (by decide) (fun c15 => ?_) (fun c15 => ?_)
          · refine lv_iload hx hb dX1_isHeard_67 (lv_at hl 0 rfl) ?_
            refine lv_i2l (v := v5.toInt64) hx hb dX1_isHeard_69 rfl ?_
            rw [if_pos c15] at hJ14
            exact hJ14
          · refine lv_iload hx hb dX1_isHeard_59 (lv_at hl 0 rfl) ?_
            refine lv_iconst (v := iI 1) hx hb dX1_isHeard_61 rfl ?_
            refine lv_isub hx hb dX1_isHeard_62 ?_
            refine lv_i2l (v := (v5 - (iI 1)).toInt64) hx hb dX1_isHeard_63 rfl ?_
            refine lv_goto (tgt := 70) hx hb dX1_isHeard_64 (by decide) ?_
            rw [if_neg c15] at hJ14
            exact hJ14
        refine lv_if_eq (tgt := 54) hx hb dX1_isHeard_47 (by decide) (fun c13 => ?_) (fun c13 => ?_)
        · refine lv_lconst (v := lI 1) hx hb dX1_isHeard_54 (by decide) ?_
          rw [if_pos c13] at hJ12
          exact hJ12
        · refine lv_lconst (v := lI 0) hx hb dX1_isHeard_50 (by decide) ?_
          refine lv_goto (tgt := 55) hx hb dX1_isHeard_51 (by decide) ?_
          rw [if_neg c13] at hJ12
          exact hJ12
  refine lv_icmp_ne (tgt := 14) hx hb dX1_isHeard_7 (by decide) (fun c4 => ?_) (fun c4 => ?_)
  · refine lv_iconst (v := iI 0) hx hb dX1_isHeard_14 rfl ?_
    rw [if_neg c4] at hJ3
    exact hJ3
  · refine lv_iconst (v := iI 1) hx hb dX1_isHeard_10 rfl ?_
    refine lv_goto (tgt := 15) hx hb dX1_isHeard_11 (by decide) ?_
    rw [if_pos c4] at hJ3
    exact hJ3
theorem hdX0_heardIn : yX0_heardIn.cls = RX0 ∧ yX0_heardIn.cls ≠ "java/lang/invoke/MethodHandle" ∧ yX0_heardIn.cls ≠ "java/lang/invoke/VarHandle" ∧ (parseMethodDescriptor yX0_heardIn.desc).map (fun d => d.parameters.length) = some 3 := by decide +kernel
theorem ckX0_heardIn {h : Hp} {a0 : Nat} {a1 : Nat} {x2 : Int32} {x3 : Int32} {res : Int32} (hf : fX0_heardIn h a0 a1 x2 x3 = some res) : ep_cls h a0 = some 0 := by
  unfold fX0_heardIn at hf
  exact (oi_c hf).1
abbrev wX0_heardIn (p : Program) (l : Launch) (e : Env) (s : State) (m : MethodId) (below : List Frame) (meth : Method) (c : Code) (G : EG) (h : Hp) (a0 : Nat) (a1 : Nat) (x2 : Int32) (x3 : Int32) (res : Int32) (k9 n9 : Nat) (H : Heap) (locs : List Loc) (g : JFrame) : Prop := W p l e (headSpec (ws_ yX0_heardIn cX0_heardIn 6 (some .int)) ({ frames := 6, cells := 0, slots := 0, locals := 165 } : Room)).room s m ([.ref a0, .ref a1, .int x2, .int x3] : List Value).toArray below meth c H locs k9 n9 (MQ below (ep_Qi G ep_cl h res) ([.ref a0, .ref a1, .int x2, .int x3] : List Value).toArray s 0 0 (ep_A G)) g
set_option maxHeartbeats 4000000 in
theorem metX0_heardIn (l : Launch) (G : EG) (h : Hp) (a0 : Nat) (a1 : Nat) (x2 : Int32) (x3 : Int32) {res : Int32} (hf : fX0_heardIn h a0 a1 x2 x3 = some res) : Met l yX0_heardIn (ws_ yX0_heardIn cX0_heardIn 6 (some .int)) ({ frames := 6, cells := 0, slots := 0, locals := 165 } : Room) (ep_Pc G ep_cl h [.ref a0, .ref a1, .int x2, .int x3]) (ep_Qi G ep_cl h res) 0 0 (ep_A G) := by
  refine Met.ofW (cc := cX0_heardIn) (maxL := 6) (ret := (some .int)) (by decide) rfl ?_
  intro p e s m args below meth c s₁ B hml hv
  obtain ⟨rfl, hR, hK, hZ⟩ := hv
  have hx := B.exec
  have hb := B.bytes
  have hr := B.returns
  have hlocks := B.notSynchronized
  have hts := atoms_spec (ws := (ws_ yX0_heardIn cX0_heardIn 6 (some .int))) B.pre
  have hts : ∀ w ∈ lw_all, w.before _ s = true := fun w h => hts w (List.mem_cons_of_mem _ h)
  have hown : s.vm.findClass RX0 = some m.cls := findClass_of_methodNamed B.named
  have hw : ep_W G ep_cl h s s.heap [] := ⟨hR, va_S.rf⟩
  have hl := lv_entry ([.ref a0, .ref a1, .int x2, .int x3]) (n := 6) (Nat.le_of_ble_eq_true rfl)
  rw [lg_entry_eq]
  generalize (lg_sl ([.ref a0, .ref a1, .int x2, .int x3]) ++ List.replicate (6 - (lg_sl ([.ref a0, .ref a1, .int x2, .int x3])).length) Slot.unset).toArray = ls at hl ⊢
  have hl : lv_has ls 6 [(0, .ref a0), (1, .ref a1), (2, .int x2), (3, .int x3)] := hl
  unfold fX0_heardIn at hf
  have hf := (oi_c hf).2
  show wX0_heardIn p l e s m below meth c G h a0 a1 x2 x3 res 0 0 s.heap ([]) (F0 m 0 ls [])
  refine lv_iconst (v := iI 0) hx hb dX0_heardIn_0 rfl ?_
  refine lv_istore (lv' := [(4, .int (iI 0)), (0, .ref a0), (1, .ref a1), (2, .int x2), (3, .int x3)]) hx hb dX0_heardIn_1 hl (by decide) rfl (fun ls hl => ?_)
  refine lv_iconst (v := iI 0) hx hb dX0_heardIn_3 rfl ?_
  refine lv_istore (lv' := [(5, .int (iI 0)), (4, .int (iI 0)), (0, .ref a0), (1, .ref a1), (2, .int x2), (3, .int x3)]) hx hb dX0_heardIn_4 hl (by decide) rfl (fun ls hl => ?_)
  obtain ⟨o1, ho1, hf⟩ := ob_s hf
  have hJ1 : ∀ (H : Heap) (locs : List Loc) (ls : Array Slot), ep_W G ep_cl h s H locs → lv_has ls 6 [(4, .int o1)] → wX0_heardIn p l e s m below meth c G h a0 a1 x2 x3 res 0 0 H locs (F0 m 55 ls []) := by
    intro H locs ls hw hl
    refine lv_iload hx hb dX0_heardIn_55 (lv_at hl 0 rfl) ?_
    exact ep_retiR hx hb hr hlocks hw hf dX0_heardIn_57
  have hL1 : ∀ (fu : Nat) (x4 : Int32) (x5 : Int32), fX0_heardIn_L6 h a1 x2 x3 fu x4 x5 = some o1 → ∀ (H : Heap) (locs : List Loc) (ls : Array Slot), ep_W G ep_cl h s H locs → lv_has ls 6 [(1, .ref a1), (2, .int x2), (3, .int x3), (4, .int x4), (5, .int x5)] → wX0_heardIn p l e s m below meth c G h a0 a1 x2 x3 res 0 0 H locs (F0 m 6 ls []) := by
    intro fu
    induction fu with
    | zero => intro x4 x5 ho1; cases ho1
    | succ fu ih1 =>
      intro x4 x5 ho1 H locs ls hw hl
      rw [fX0_heardIn_L6] at ho1
      refine lv_iload hx hb dX0_heardIn_6 (lv_at hl 4 rfl) ?_
      refine lv_aload_n hx hb dX0_heardIn_8 rfl (lv_at hl 0 rfl) ?_
      obtain ⟨v2, ev2, ho1⟩ := ob_s ho1
      refine ep_getN (C := RX1) (T := TX1) (N := 11) (ci := 1) hx hb hts in_X1 hown hK hw rfl 7 (by decide) q167 (gI_f ev2) dX0_heardIn_9 ?_
      refine lv_icmp_ge (tgt := 55) hx hb dX0_heardIn_12 (by decide) (fun c3 => ?_) (fun c3 => ?_)
      · have ho1 := oi_t ho1 c3
        obtain rfl := Option.some.inj ho1
        exact hJ1 _ _ _ hw (lv_sub hl [3] rfl)
      · have ho1 := oi_f ho1 c3
        refine lv_iload hx hb dX0_heardIn_15 (lv_at hl 3 rfl) ?_
        refine lv_aload_n hx hb dX0_heardIn_17 rfl (lv_at hl 0 rfl) ?_
        obtain ⟨r4, er4, ho1⟩ := ob_s ho1
        refine ep_getN (C := RX1) (T := TX1) (N := 11) (ci := 1) hx hb hts in_X1 hown hK hw rfl 6 (by decide) q165 (gR_f er4) dX0_heardIn_18 ?_
        refine lv_iload hx hb dX0_heardIn_21 (lv_at hl 4 rfl) ?_
        obtain ⟨v5, ev5, ho1⟩ := ob_s ho1
        refine ep_iald hx hb hK hw ev5 dX0_heardIn_23 ?_
        refine lv_iload_n hx hb dX0_heardIn_24 rfl (lv_at hl 1 rfl) ?_
        obtain ⟨o6, ho6, ho1⟩ := ob_s ho1
        have hJ6 : ∀ (H : Heap) (locs : List Loc) (ls : Array Slot), ep_W G ep_cl h s H locs → lv_has ls 6 [(1, .ref a1), (2, .int x2), (3, .int x3), (5, .int x5)] → wX0_heardIn p l e s m below meth c G h a0 a1 x2 x3 res 0 0 H locs (F0 m 46 ls [.int o6, .int x4]) := by
          intro H locs ls hw hl
          refine lv_ior hx hb dX0_heardIn_46 ?_
          refine lv_istore (lv' := [(4, .int (x4 ||| o6)), (1, .ref a1), (2, .int x2), (3, .int x3), (5, .int x5)]) hx hb dX0_heardIn_47 hl (by decide) rfl (fun ls hl => ?_)
          refine lv_iinc (v := (x5 + iI 1)) (lv' := [(5, .int (x5 + iI 1)), (4, .int (x4 ||| o6)), (1, .ref a1), (2, .int x2), (3, .int x3)]) hx hb dX0_heardIn_49 hl (k := 4) rfl rfl (by decide) rfl (fun ls hl => ?_)
          refine lv_goto (tgt := 6) hx hb dX0_heardIn_52 (by decide) ?_
          exact ih1 _ _ ho1 _ _ _ hw (lv_sub hl [2, 3, 4, 1, 0] rfl)
        refine lv_icmp_ne (tgt := 45) hx hb dX0_heardIn_25 (by decide) (fun c7 => ?_) (fun c7 => ?_)
        · have ho6 := oi_f ho6 c7
          refine lv_iconst (v := iI 0) hx hb dX0_heardIn_45 rfl ?_
          obtain rfl := Option.some.inj ho6
          exact hJ6 _ _ _ hw (lv_sub hl [0, 1, 2, 4] rfl)
        · have ho6 := oi_t ho6 c7
          refine lv_aload_n hx hb dX0_heardIn_28 rfl (lv_at hl 0 rfl) ?_
          refine lv_iload hx hb dX0_heardIn_29 (lv_at hl 4 rfl) ?_
          refine lv_iload_n hx hb dX0_heardIn_31 rfl (lv_at hl 2 rfl) ?_
          obtain ⟨v8, ev8, ho6⟩ := ob_s ho6
          refine ep_calli0 (va_runV (As := [.int x5, .int x3]) (rest := [.int x4]) ⟨hx, hb, hml, hown, hts⟩ (metX1_isHeard l G h a1 x5 x3 ev8) (cwV 2 hts (lw_V q744 q745 q746 q86 q747) rfl rfl rfl hdX1_isHeard ⟨Nat.le_of_ble_eq_true rfl, Nat.le_of_ble_eq_true rfl⟩) (ep_preV hK hZ hw rfl (ckX1_isHeard ev8)) rfl rfl hl.1 rfl (lv_room (Nat.le_of_ble_eq_true rfl)) dX0_heardIn_32 ⟨Nat.le_of_ble_eq_true rfl, Nat.le_of_ble_eq_true rfl⟩) hw (fun H locs hw => ?_)
          refine lv_if_eq (tgt := 45) hx hb dX0_heardIn_35 (by decide) (fun c9 => ?_) (fun c9 => ?_)
          · have ho6 := oi_t ho6 c9
            refine lv_iconst (v := iI 0) hx hb dX0_heardIn_45 rfl ?_
            obtain rfl := Option.some.inj ho6
            exact hJ6 _ _ _ hw (lv_sub hl [0, 1, 2, 4] rfl)
          · have ho6 := oi_f ho6 c9
            refine lv_iconst (v := iI 1) hx hb dX0_heardIn_38 rfl ?_
            refine lv_iload hx hb dX0_heardIn_39 (lv_at hl 4 rfl) ?_
            refine lv_ishl hx hb dX0_heardIn_41 ?_
            refine lv_goto (tgt := 46) hx hb dX0_heardIn_42 (by decide) ?_
            obtain rfl := Option.some.inj ho6
            exact hJ6 _ _ _ hw (lv_sub hl [0, 1, 2, 4] rfl)
  exact hL1 FUEL _ _ ho1 _ _ _ hw (lv_sub hl [3, 4, 5, 1, 0] rfl)
theorem hdX0_heard : yX0_heard.cls = RX0 ∧ yX0_heard.cls ≠ "java/lang/invoke/MethodHandle" ∧ yX0_heard.cls ≠ "java/lang/invoke/VarHandle" ∧ (parseMethodDescriptor yX0_heard.desc).map (fun d => d.parameters.length) = some 2 := by decide +kernel
theorem ckX0_heard {h : Hp} {a0 : Nat} {x1 : Int32} {x2 : Int32} {res : Int32} (hf : fX0_heard h a0 x1 x2 = some res) : ep_cls h a0 = some 0 := by
  unfold fX0_heard at hf
  exact (oi_c hf).1
abbrev wX0_heard (p : Program) (l : Launch) (e : Env) (s : State) (m : MethodId) (below : List Frame) (meth : Method) (c : Code) (G : EG) (h : Hp) (a0 : Nat) (x1 : Int32) (x2 : Int32) (res : Int32) (k9 n9 : Nat) (H : Heap) (locs : List Loc) (g : JFrame) : Prop := W p l e (headSpec (ws_ yX0_heard cX0_heard 3 (some .int)) ({ frames := 7, cells := 0, slots := 0, locals := 190 } : Room)).room s m ([.ref a0, .int x1, .int x2] : List Value).toArray below meth c H locs k9 n9 (MQ below (ep_Qi G ep_cl h res) ([.ref a0, .int x1, .int x2] : List Value).toArray s 0 0 (ep_A G)) g
set_option maxHeartbeats 4000000 in
theorem metX0_heard (l : Launch) (G : EG) (h : Hp) (a0 : Nat) (x1 : Int32) (x2 : Int32) {res : Int32} (hf : fX0_heard h a0 x1 x2 = some res) : Met l yX0_heard (ws_ yX0_heard cX0_heard 3 (some .int)) ({ frames := 7, cells := 0, slots := 0, locals := 190 } : Room) (ep_Pc G ep_cl h [.ref a0, .int x1, .int x2]) (ep_Qi G ep_cl h res) 0 0 (ep_A G) := by
  refine Met.ofW (cc := cX0_heard) (maxL := 3) (ret := (some .int)) (by decide) rfl ?_
  intro p e s m args below meth c s₁ B hml hv
  obtain ⟨rfl, hR, hK, hZ⟩ := hv
  have hx := B.exec
  have hb := B.bytes
  have hr := B.returns
  have hlocks := B.notSynchronized
  have hts := atoms_spec (ws := (ws_ yX0_heard cX0_heard 3 (some .int))) B.pre
  have hts : ∀ w ∈ lw_all, w.before _ s = true := fun w h => hts w (List.mem_cons_of_mem _ h)
  have hown : s.vm.findClass RX0 = some m.cls := findClass_of_methodNamed B.named
  have hw : ep_W G ep_cl h s s.heap [] := ⟨hR, va_S.rf⟩
  have hl := lv_entry ([.ref a0, .int x1, .int x2]) (n := 3) (Nat.le_of_ble_eq_true rfl)
  rw [lg_entry_eq]
  generalize (lg_sl ([.ref a0, .int x1, .int x2]) ++ List.replicate (3 - (lg_sl ([.ref a0, .int x1, .int x2])).length) Slot.unset).toArray = ls at hl ⊢
  have hl : lv_has ls 3 [(0, .ref a0), (1, .int x1), (2, .int x2)] := hl
  unfold fX0_heard at hf
  have hf := (oi_c hf).2
  show wX0_heard p l e s m below meth c G h a0 x1 x2 res 0 0 s.heap ([]) (F0 m 0 ls [])
  refine lv_aload_n hx hb dX0_heard_0 rfl (lv_at hl 0 rfl) ?_
  refine lv_iload_n hx hb dX0_heard_1 rfl (lv_at hl 1 rfl) ?_
  obtain ⟨v1, ev1, hf⟩ := ob_s hf
  refine ep_calli0 (va_runV (As := [.int x1]) (rest := []) ⟨hx, hb, hml, hown, hts⟩ (metX0_isPen l G h a0 x1 ev1) (cwV 1 hts (lw_V q565 q567 qs14 q85 q569) rfl rfl rfl hdX0_isPen ⟨Nat.le_of_ble_eq_true rfl, Nat.le_of_ble_eq_true rfl⟩) (ep_preV hK hZ hw rfl (ckX0_isPen ev1)) rfl rfl hl.1 rfl (lv_room (Nat.le_of_ble_eq_true rfl)) dX0_heard_2 ⟨Nat.le_of_ble_eq_true rfl, Nat.le_of_ble_eq_true rfl⟩) hw (fun H locs hw => ?_)
  refine lv_if_eq (tgt := 33) hx hb dX0_heard_5 (by decide) (fun c2 => ?_) (fun c2 => ?_)
  · have hf := oi_t hf c2
    refine lv_iconst (v := iI (-1)) hx hb dX0_heard_33 rfl ?_
    exact ep_retiR hx hb hr hlocks hw hf dX0_heard_34
  · have hf := oi_f hf c2
    refine lv_iload_n hx hb dX0_heard_8 rfl (lv_at hl 2 rfl) ?_
    refine lv_i2l (v := x2.toInt64) hx hb dX0_heard_9 rfl ?_
    refine lv_lconst (v := lI 0) hx hb dX0_heard_10 (by decide) ?_
    refine lv_ldc2 (v := (99 : Int64)) hx hb hown (hts _ q649) dX0_heard_11 ?_
    obtain ⟨v3, ev3, hf⟩ := ob_s hf
    refine ep_calli0 (va_runS (As := [.long x2.toInt64, .long (lI 0), .long (99 : Int64)]) (rest := []) ⟨hx, hb, hml, hown, hts⟩ (metX0_isIn l G h x2.toInt64 (lI 0) (99 : Int64) ev3) (va_cwS 3 hts (lw_S q114 q115 q85 q116) rfl rfl rfl hsX0_isIn ⟨Nat.le_of_ble_eq_true rfl, Nat.le_of_ble_eq_true rfl⟩) (ep_preS hK hZ hw) rfl rfl hl.1 rfl (lv_room (Nat.le_of_ble_eq_true rfl)) dX0_heard_14 ⟨Nat.le_of_ble_eq_true rfl, Nat.le_of_ble_eq_true rfl⟩) hw (fun H locs hw => ?_)
    refine lv_if_eq (tgt := 33) hx hb dX0_heard_17 (by decide) (fun c4 => ?_) (fun c4 => ?_)
    · have hf := oi_t hf c4
      refine lv_iconst (v := iI (-1)) hx hb dX0_heard_33 rfl ?_
      exact ep_retiR hx hb hr hlocks hw hf dX0_heard_34
    · have hf := oi_f hf c4
      refine lv_aload_n hx hb dX0_heard_20 rfl (lv_at hl 0 rfl) ?_
      refine lv_aload_n hx hb dX0_heard_21 rfl (lv_at hl 0 rfl) ?_
      obtain ⟨r5, er5, hf⟩ := ob_s hf
      refine ep_get (C := RX0) (T := TX0) (N := 25) (ci := 0) hx hb hts in_X0 hown hK hw rfl 3 (by decide) q930 (gR_f er5) dX0_heard_22 ?_
      refine lv_iload_n hx hb dX0_heard_25 rfl (lv_at hl 1 rfl) ?_
      refine lv_iload_n hx hb dX0_heard_26 rfl (lv_at hl 2 rfl) ?_
      obtain ⟨v6, ev6, hf⟩ := ob_s hf
      refine ep_calli0 (va_runV (As := [.ref r5, .int x1, .int x2]) (rest := []) ⟨hx, hb, hml, hown, hts⟩ (metX0_heardIn l G h a0 r5 x1 x2 ev6) (cwV 3 hts (lw_V q740 q742 qs24 q85 q743) rfl rfl rfl hdX0_heardIn ⟨Nat.le_of_ble_eq_true rfl, Nat.le_of_ble_eq_true rfl⟩) (ep_preV hK hZ hw rfl (ckX0_heardIn ev6)) rfl rfl hl.1 rfl (lv_room (Nat.le_of_ble_eq_true rfl)) dX0_heard_27 ⟨Nat.le_of_ble_eq_true rfl, Nat.le_of_ble_eq_true rfl⟩) hw (fun H locs hw => ?_)
      refine lv_goto (tgt := 34) hx hb dX0_heard_30 (by decide) ?_
      exact ep_retiR hx hb hr hlocks hw hf dX0_heard_34
theorem hdX0_together : yX0_together.cls = RX0 ∧ yX0_together.cls ≠ "java/lang/invoke/MethodHandle" ∧ yX0_together.cls ≠ "java/lang/invoke/VarHandle" ∧ (parseMethodDescriptor yX0_together.desc).map (fun d => d.parameters.length) = some 1 := by decide +kernel
theorem ckX0_together {h : Hp} {a0 : Nat} {x1 : Int32} {res : Int32} (hf : fX0_together h a0 x1 = some res) : ep_cls h a0 = some 0 := by
  unfold fX0_together at hf
  exact (oi_c hf).1
abbrev wX0_together (p : Program) (l : Launch) (e : Env) (s : State) (m : MethodId) (below : List Frame) (meth : Method) (c : Code) (G : EG) (h : Hp) (a0 : Nat) (x1 : Int32) (res : Int32) (k9 n9 : Nat) (H : Heap) (locs : List Loc) (g : JFrame) : Prop := W p l e (headSpec (ws_ yX0_together cX0_together 3 (some .int)) ({ frames := 7, cells := 0, slots := 0, locals := 190 } : Room)).room s m ([.ref a0, .int x1] : List Value).toArray below meth c H locs k9 n9 (MQ below (ep_Qi G ep_cl h res) ([.ref a0, .int x1] : List Value).toArray s 0 0 (ep_A G)) g
set_option maxHeartbeats 4000000 in
theorem metX0_together (l : Launch) (G : EG) (h : Hp) (a0 : Nat) (x1 : Int32) {res : Int32} (hf : fX0_together h a0 x1 = some res) : Met l yX0_together (ws_ yX0_together cX0_together 3 (some .int)) ({ frames := 7, cells := 0, slots := 0, locals := 190 } : Room) (ep_Pc G ep_cl h [.ref a0, .int x1]) (ep_Qi G ep_cl h res) 0 0 (ep_A G) := by
  refine Met.ofW (cc := cX0_together) (maxL := 3) (ret := (some .int)) (by decide) rfl ?_
  intro p e s m args below meth c s₁ B hml hv
  obtain ⟨rfl, hR, hK, hZ⟩ := hv
  have hx := B.exec
  have hb := B.bytes
  have hr := B.returns
  have hlocks := B.notSynchronized
  have hts := atoms_spec (ws := (ws_ yX0_together cX0_together 3 (some .int))) B.pre
  have hts : ∀ w ∈ lw_all, w.before _ s = true := fun w h => hts w (List.mem_cons_of_mem _ h)
  have hown : s.vm.findClass RX0 = some m.cls := findClass_of_methodNamed B.named
  have hw : ep_W G ep_cl h s s.heap [] := ⟨hR, va_S.rf⟩
  have hl := lv_entry ([.ref a0, .int x1]) (n := 3) (Nat.le_of_ble_eq_true rfl)
  rw [lg_entry_eq]
  generalize (lg_sl ([.ref a0, .int x1]) ++ List.replicate (3 - (lg_sl ([.ref a0, .int x1])).length) Slot.unset).toArray = ls at hl ⊢
  have hl : lv_has ls 3 [(0, .ref a0), (1, .int x1)] := hl
  unfold fX0_together at hf
  have hf := (oi_c hf).2
  show wX0_together p l e s m below meth c G h a0 x1 res 0 0 s.heap ([]) (F0 m 0 ls [])
  refine lv_aload_n hx hb dX0_together_0 rfl (lv_at hl 0 rfl) ?_
  refine lv_iload_n hx hb dX0_together_1 rfl (lv_at hl 1 rfl) ?_
  obtain ⟨v1, ev1, hf⟩ := ob_s hf
  refine ep_calli0 (va_runV (As := [.int x1]) (rest := []) ⟨hx, hb, hml, hown, hts⟩ (metX0_isPen l G h a0 x1 ev1) (cwV 1 hts (lw_V q565 q567 qs14 q85 q569) rfl rfl rfl hdX0_isPen ⟨Nat.le_of_ble_eq_true rfl, Nat.le_of_ble_eq_true rfl⟩) (ep_preV hK hZ hw rfl (ckX0_isPen ev1)) rfl rfl hl.1 rfl (lv_room (Nat.le_of_ble_eq_true rfl)) dX0_together_2 ⟨Nat.le_of_ble_eq_true rfl, Nat.le_of_ble_eq_true rfl⟩) hw (fun H locs hw => ?_)
  refine lv_if_ne (tgt := 10) hx hb dX0_together_5 (by decide) (fun c2 => ?_) (fun c2 => ?_)
  · have hf := oi_f hf c2
    refine lv_iconst (v := iI 0) hx hb dX0_together_10 rfl ?_
    refine lv_istore_n (lv' := [(2, .int (iI 0)), (0, .ref a0), (1, .int x1)]) hx hb dX0_together_11 rfl hl (by decide) rfl (fun ls hl => ?_)
    obtain ⟨ox3, ho3, hk3⟩ := orL_s hf
    have hT3 : ∀ r, ox3 = .inl r → some r = some res := fun r eo => (by have e := orL_1 hk3 eo; exact e)
    have hJ3 : ∀ o3, ox3 = .inr o3 → ∀ (H : Heap) (locs : List Loc) (ls : Array Slot), ep_W G ep_cl h s H locs → lv_has ls 3 [] → wX0_together p l e s m below meth c G h a0 x1 res 0 0 H locs (F0 m 58 ls []) := by
      intro o3 eo H locs ls hw hl
      have hf := orL_2 hk3 eo
      refine lv_bipush (v := iI (-4)) hx hb dX0_together_58 (by decide) ?_
      exact ep_retiR hx hb hr hlocks hw hf dX0_together_60
    have hL3 : ∀ (fu : Nat) (x2 : Int32), fX0_together_L12 h a0 x1 fu x2 = some ox3 → ∀ (H : Heap) (locs : List Loc) (ls : Array Slot), ep_W G ep_cl h s H locs → lv_has ls 3 [(0, .ref a0), (1, .int x1), (2, .int x2)] → wX0_together p l e s m below meth c G h a0 x1 res 0 0 H locs (F0 m 12 ls []) := by
      intro fu
      induction fu with
      | zero => intro x2 ho3; cases ho3
      | succ fu ih3 =>
        intro x2 ho3 H locs ls hw hl
        rw [fX0_together_L12] at ho3
        refine lv_iload_n hx hb dX0_together_12 rfl (lv_at hl 2 rfl) ?_
        refine lv_bipush (v := iI 99) hx hb dX0_together_13 (by decide) ?_
        refine lv_icmp_gt (tgt := 58) hx hb dX0_together_15 (by decide) (fun c4 => ?_) (fun c4 => ?_)
        · have ho3 := oi_t ho3 c4
          exact hJ3 _ (Option.some.inj ho3).symm _ _ _ hw (lv_sub hl [] rfl)
        · have ho3 := oi_f ho3 c4
          refine lv_aload_n hx hb dX0_together_18 rfl (lv_at hl 0 rfl) ?_
          obtain ⟨r5, er5, ho3⟩ := ob_s ho3
          refine ep_get (C := RX0) (T := TX0) (N := 25) (ci := 0) hx hb hts in_X0 hown hK hw rfl 3 (by decide) q930 (gR_f er5) dX0_together_19 ?_
          refine lv_iload_n hx hb dX0_together_22 rfl (lv_at hl 1 rfl) ?_
          obtain ⟨v6, ev6, ho3⟩ := ob_s ho3
          refine ep_calli0 (va_runV (As := [.int x1]) (rest := []) ⟨hx, hb, hml, hown, hts⟩ (metX1_in l G h r5 x1 ev6) (cwV 1 hts (lw_V q548 q526 q527 q86 q528) rfl rfl rfl hdX1_in ⟨Nat.le_of_ble_eq_true rfl, Nat.le_of_ble_eq_true rfl⟩) (ep_preV hK hZ hw rfl (ckX1_in ev6)) rfl rfl hl.1 rfl (lv_room (Nat.le_of_ble_eq_true rfl)) dX0_together_23 ⟨Nat.le_of_ble_eq_true rfl, Nat.le_of_ble_eq_true rfl⟩) hw (fun H locs hw => ?_)
          refine lv_if_eq (tgt := 58) hx hb dX0_together_26 (by decide) (fun c7 => ?_) (fun c7 => ?_)
          · have ho3 := oi_t ho3 c7
            exact hJ3 _ (Option.some.inj ho3).symm _ _ _ hw (lv_sub hl [] rfl)
          · have ho3 := oi_f ho3 c7
            refine lv_aload_n hx hb dX0_together_29 rfl (lv_at hl 0 rfl) ?_
            refine lv_aload_n hx hb dX0_together_30 rfl (lv_at hl 0 rfl) ?_
            obtain ⟨r8, er8, ho3⟩ := ob_s ho3
            refine ep_get (C := RX0) (T := TX0) (N := 25) (ci := 0) hx hb hts in_X0 hown hK hw rfl 3 (by decide) q930 (gR_f er8) dX0_together_31 ?_
            refine lv_iload_n hx hb dX0_together_34 rfl (lv_at hl 1 rfl) ?_
            refine lv_iload_n hx hb dX0_together_35 rfl (lv_at hl 2 rfl) ?_
            obtain ⟨v9, ev9, ho3⟩ := ob_s ho3
            refine ep_calli0 (va_runV (As := [.ref r8, .int x1, .int x2]) (rest := []) ⟨hx, hb, hml, hown, hts⟩ (metX0_heardIn l G h a0 r8 x1 x2 ev9) (cwV 3 hts (lw_V q740 q742 qs24 q85 q743) rfl rfl rfl hdX0_heardIn ⟨Nat.le_of_ble_eq_true rfl, Nat.le_of_ble_eq_true rfl⟩) (ep_preV hK hZ hw rfl (ckX0_heardIn ev9)) rfl rfl hl.1 rfl (lv_room (Nat.le_of_ble_eq_true rfl)) dX0_together_36 ⟨Nat.le_of_ble_eq_true rfl, Nat.le_of_ble_eq_true rfl⟩) hw (fun H locs hw => ?_)
            refine lv_aload_n hx hb dX0_together_39 rfl (lv_at hl 0 rfl) ?_
            obtain ⟨r10, er10, ho3⟩ := ob_s ho3
            refine ep_get (C := RX0) (T := TX0) (N := 25) (ci := 0) hx hb hts in_X0 hown hK hw rfl 3 (by decide) q930 (gR_f er10) dX0_together_40 ?_
            refine lv_iload_n hx hb dX0_together_43 rfl (lv_at hl 1 rfl) ?_
            obtain ⟨v11, ev11, ho3⟩ := ob_s ho3
            refine ep_calli0 (va_runV (As := [.int x1]) (rest := [.int v9]) ⟨hx, hb, hml, hown, hts⟩ (metX1_in l G h r10 x1 ev11) (cwV 1 hts (lw_V q548 q526 q527 q86 q528) rfl rfl rfl hdX1_in ⟨Nat.le_of_ble_eq_true rfl, Nat.le_of_ble_eq_true rfl⟩) (ep_preV hK hZ hw rfl (ckX1_in ev11)) rfl rfl hl.1 rfl (lv_room (Nat.le_of_ble_eq_true rfl)) dX0_together_44 ⟨Nat.le_of_ble_eq_true rfl, Nat.le_of_ble_eq_true rfl⟩) hw (fun H locs hw => ?_)
            refine lv_icmp_ne (tgt := 52) hx hb dX0_together_47 (by decide) (fun c12 => ?_) (fun c12 => ?_)
            · have ho3 := oi_f ho3 c12
              refine lv_iinc (v := (x2 + iI 1)) (lv' := [(2, .int (x2 + iI 1)), (0, .ref a0), (1, .int x1)]) hx hb dX0_together_52 hl (k := 2) rfl rfl (by decide) rfl (fun ls hl => ?_)
              refine lv_goto (tgt := 12) hx hb dX0_together_55 (by decide) ?_
              exact ih3 _ ho3 _ _ _ hw (lv_sub hl [1, 2, 0] rfl)
            · have ho3 := oi_t ho3 c12
              refine lv_iload_n hx hb dX0_together_50 rfl (lv_at hl 2 rfl) ?_
              exact ep_retiR hx hb hr hlocks hw (hT3 _ (Option.some.inj ho3).symm) dX0_together_51
    exact hL3 FUEL _ ho3 _ _ _ hw (lv_sub hl [1, 2, 0] rfl)
  · have hf := oi_t hf c2
    refine lv_iconst (v := iI (-1)) hx hb dX0_together_8 rfl ?_
    exact ep_retiR hx hb hr hlocks hw hf dX0_together_9
theorem hdX0_still : yX0_still.cls = RX0 ∧ yX0_still.cls ≠ "java/lang/invoke/MethodHandle" ∧ yX0_still.cls ≠ "java/lang/invoke/VarHandle" ∧ (parseMethodDescriptor yX0_still.desc).map (fun d => d.parameters.length) = some 1 := by decide +kernel
theorem ckX0_still {h : Hp} {a0 : Nat} {x1 : Int32} {res : Int32} (hf : fX0_still h a0 x1 = some res) : ep_cls h a0 = some 0 := by
  unfold fX0_still at hf
  exact (oi_c hf).1
abbrev wX0_still (p : Program) (l : Launch) (e : Env) (s : State) (m : MethodId) (below : List Frame) (meth : Method) (c : Code) (G : EG) (h : Hp) (a0 : Nat) (x1 : Int32) (res : Int32) (k9 n9 : Nat) (H : Heap) (locs : List Loc) (g : JFrame) : Prop := W p l e (headSpec (ws_ yX0_still cX0_still 6 (some .int)) ({ frames := 5, cells := 0, slots := 0, locals := 141 } : Room)).room s m ([.ref a0, .int x1] : List Value).toArray below meth c H locs k9 n9 (MQ below (ep_Qi G ep_cl h res) ([.ref a0, .int x1] : List Value).toArray s 0 0 (ep_A G)) g
set_option maxHeartbeats 4000000 in
theorem metX0_still (l : Launch) (G : EG) (h : Hp) (a0 : Nat) (x1 : Int32) {res : Int32} (hf : fX0_still h a0 x1 = some res) : Met l yX0_still (ws_ yX0_still cX0_still 6 (some .int)) ({ frames := 5, cells := 0, slots := 0, locals := 141 } : Room) (ep_Pc G ep_cl h [.ref a0, .int x1]) (ep_Qi G ep_cl h res) 0 0 (ep_A G) := by
  refine Met.ofW (cc := cX0_still) (maxL := 6) (ret := (some .int)) (by decide) rfl ?_
  intro p e s m args below meth c s₁ B hml hv
  obtain ⟨rfl, hR, hK, hZ⟩ := hv
  have hx := B.exec
  have hb := B.bytes
  have hr := B.returns
  have hlocks := B.notSynchronized
  have hts := atoms_spec (ws := (ws_ yX0_still cX0_still 6 (some .int))) B.pre
  have hts : ∀ w ∈ lw_all, w.before _ s = true := fun w h => hts w (List.mem_cons_of_mem _ h)
  have hown : s.vm.findClass RX0 = some m.cls := findClass_of_methodNamed B.named
  have hw : ep_W G ep_cl h s s.heap [] := ⟨hR, va_S.rf⟩
  have hl := lv_entry ([.ref a0, .int x1]) (n := 6) (Nat.le_of_ble_eq_true rfl)
  rw [lg_entry_eq]
  generalize (lg_sl ([.ref a0, .int x1]) ++ List.replicate (6 - (lg_sl ([.ref a0, .int x1])).length) Slot.unset).toArray = ls at hl ⊢
  have hl : lv_has ls 6 [(0, .ref a0), (1, .int x1)] := hl
  unfold fX0_still at hf
  have hf := (oi_c hf).2
  show wX0_still p l e s m below meth c G h a0 x1 res 0 0 s.heap ([]) (F0 m 0 ls [])
  refine lv_aload_n hx hb dX0_still_0 rfl (lv_at hl 0 rfl) ?_
  refine lv_iload_n hx hb dX0_still_1 rfl (lv_at hl 1 rfl) ?_
  obtain ⟨v1, ev1, hf⟩ := ob_s hf
  refine ep_calli0 (va_runV (As := [.int x1]) (rest := []) ⟨hx, hb, hml, hown, hts⟩ (metX0_isPen l G h a0 x1 ev1) (cwV 1 hts (lw_V q565 q567 qs14 q85 q569) rfl rfl rfl hdX0_isPen ⟨Nat.le_of_ble_eq_true rfl, Nat.le_of_ble_eq_true rfl⟩) (ep_preV hK hZ hw rfl (ckX0_isPen ev1)) rfl rfl hl.1 rfl (lv_room (Nat.le_of_ble_eq_true rfl)) dX0_still_2 ⟨Nat.le_of_ble_eq_true rfl, Nat.le_of_ble_eq_true rfl⟩) hw (fun H locs hw => ?_)
  refine lv_if_ne (tgt := 10) hx hb dX0_still_5 (by decide) (fun c2 => ?_) (fun c2 => ?_)
  · have hf := oi_f hf c2
    refine lv_bipush (v := iI (-4)) hx hb dX0_still_10 (by decide) ?_
    refine lv_istore_n (lv' := [(2, .int (iI (-4))), (0, .ref a0), (1, .int x1)]) hx hb dX0_still_12 rfl hl (by decide) rfl (fun ls hl => ?_)
    refine lv_iconst (v := iI 0) hx hb dX0_still_13 rfl ?_
    refine lv_istore_n (lv' := [(3, .int (iI 0)), (2, .int (iI (-4))), (0, .ref a0), (1, .int x1)]) hx hb dX0_still_14 rfl hl (by decide) rfl (fun ls hl => ?_)
    obtain ⟨o3, ho3, hf⟩ := ob_s hf
    have hJ3 : ∀ (H : Heap) (locs : List Loc) (ls : Array Slot), ep_W G ep_cl h s H locs → lv_has ls 6 [(2, .int o3)] → wX0_still p l e s m below meth c G h a0 x1 res 0 0 H locs (F0 m 108 ls []) := by
      intro H locs ls hw hl
      refine lv_iload_n hx hb dX0_still_108 rfl (lv_at hl 0 rfl) ?_
      exact ep_retiR hx hb hr hlocks hw hf dX0_still_109
    have hL3 : ∀ (fu : Nat) (x2 : Int32) (x3 : Int32), fX0_still_L15 h a0 x1 fu x2 x3 = some o3 → ∀ (H : Heap) (locs : List Loc) (ls : Array Slot), ep_W G ep_cl h s H locs → lv_has ls 6 [(0, .ref a0), (1, .int x1), (2, .int x2), (3, .int x3)] → wX0_still p l e s m below meth c G h a0 x1 res 0 0 H locs (F0 m 15 ls []) := by
      intro fu
      induction fu with
      | zero => intro x2 x3 ho3; cases ho3
      | succ fu ih3 =>
        intro x2 x3 ho3 H locs ls hw hl
        rw [fX0_still_L15] at ho3
        refine lv_iload_n hx hb dX0_still_15 rfl (lv_at hl 3 rfl) ?_
        refine lv_aload_n hx hb dX0_still_16 rfl (lv_at hl 0 rfl) ?_
        obtain ⟨r4, er4, ho3⟩ := ob_s ho3
        refine ep_get (C := RX0) (T := TX0) (N := 25) (ci := 0) hx hb hts in_X0 hown hK hw rfl 3 (by decide) q930 (gR_f er4) dX0_still_17 ?_
        obtain ⟨v5, ev5, ho3⟩ := ob_s ho3
        refine ep_getN (C := RX1) (T := TX1) (N := 11) (ci := 1) hx hb hts in_X1 hown hK hw rfl 7 (by decide) q167 (gI_f ev5) dX0_still_20 ?_
        refine lv_icmp_ge (tgt := 108) hx hb dX0_still_23 (by decide) (fun c6 => ?_) (fun c6 => ?_)
        · have ho3 := oi_t ho3 c6
          obtain rfl := Option.some.inj ho3
          exact hJ3 _ _ _ hw (lv_sub hl [2] rfl)
        · have ho3 := oi_f ho3 c6
          refine lv_aload_n hx hb dX0_still_26 rfl (lv_at hl 0 rfl) ?_
          obtain ⟨r7, er7, ho3⟩ := ob_s ho3
          refine ep_get (C := RX0) (T := TX0) (N := 25) (ci := 0) hx hb hts in_X0 hown hK hw rfl 3 (by decide) q930 (gR_f er7) dX0_still_27 ?_
          obtain ⟨r8, er8, ho3⟩ := ob_s ho3
          refine ep_getN (C := RX1) (T := TX1) (N := 11) (ci := 1) hx hb hts in_X1 hown hK hw rfl 6 (by decide) q165 (gR_f er8) dX0_still_30 ?_
          refine lv_iload_n hx hb dX0_still_33 rfl (lv_at hl 3 rfl) ?_
          obtain ⟨v9, ev9, ho3⟩ := ob_s ho3
          refine ep_iald hx hb hK hw ev9 dX0_still_34 ?_
          refine lv_iload_n hx hb dX0_still_35 rfl (lv_at hl 1 rfl) ?_
          obtain ⟨o10, ho10, ho3⟩ := ob_s ho3
          have hJ10 : ∀ (H : Heap) (locs : List Loc) (ls : Array Slot), ep_W G ep_cl h s H locs → lv_has ls 6 [(0, .ref a0), (1, .int x1), (2, .int x2), (3, .int x3)] → wX0_still p l e s m below meth c G h a0 x1 res 0 0 H locs (F0 m 51 ls [.int o10]) := by
            intro H locs ls hw hl
            refine lv_istore (lv' := [(4, .int o10), (0, .ref a0), (1, .int x1), (2, .int x2), (3, .int x3)]) hx hb dX0_still_51 hl (by decide) rfl (fun ls hl => ?_)
            refine lv_aload_n hx hb dX0_still_53 rfl (lv_at hl 1 rfl) ?_
            obtain ⟨r14, er14, ho3⟩ := ob_s ho3
            refine ep_get (C := RX0) (T := TX0) (N := 25) (ci := 0) hx hb hts in_X0 hown hK hw rfl 3 (by decide) q930 (gR_f er14) dX0_still_54 ?_
            refine lv_iload_n hx hb dX0_still_57 rfl (lv_at hl 4 rfl) ?_
            obtain ⟨v15, ev15, ho3⟩ := ob_s ho3
            refine ep_calli0 (va_runV (As := [.int x3]) (rest := []) ⟨hx, hb, hml, hown, hts⟩ (metX1_period l G h r14 x3 ev15) (cwV 1 hts (lw_V q605 q606 q607 q86 q608) rfl rfl rfl hdX1_period ⟨Nat.le_of_ble_eq_true rfl, Nat.le_of_ble_eq_true rfl⟩) (ep_preV hK hZ hw rfl (ckX1_period ev15)) rfl rfl hl.1 rfl (lv_room (Nat.le_of_ble_eq_true rfl)) dX0_still_58 ⟨Nat.le_of_ble_eq_true rfl, Nat.le_of_ble_eq_true rfl⟩) hw (fun H locs hw => ?_)
            refine lv_aload_n hx hb dX0_still_61 rfl (lv_at hl 1 rfl) ?_
            obtain ⟨r16, er16, ho3⟩ := ob_s ho3
            refine ep_get (C := RX0) (T := TX0) (N := 25) (ci := 0) hx hb hts in_X0 hown hK hw rfl 3 (by decide) q930 (gR_f er16) dX0_still_62 ?_
            obtain ⟨r17, er17, ho3⟩ := ob_s ho3
            refine ep_getN (C := RX1) (T := TX1) (N := 11) (ci := 1) hx hb hts in_X1 hown hK hw rfl 2 (by decide) q153 (gR_f er17) dX0_still_65 ?_
            refine lv_iload_n hx hb dX0_still_68 rfl (lv_at hl 4 rfl) ?_
            obtain ⟨v18, ev18, ho3⟩ := ob_s ho3
            refine ep_iald hx hb hK hw ev18 dX0_still_69 ?_
            refine lv_iconst (v := iI 2) hx hb dX0_still_70 rfl ?_
            have hJ19 : wX0_still p l e s m below meth c G h a0 x1 res 0 0 H locs (F0 m 83 ls [.int (if v18 = (iI 2) then (o10 - (iI 1)) else o10), .int v15]) := by
              refine lv_imul hx hb dX0_still_83 ?_
              refine lv_istore (lv' := [(5, .int (v15 * (if v18 = (iI 2) then (o10 - (iI 1)) else o10))), (4, .int o10), (0, .ref a0), (1, .int x1), (2, .int x2), (3, .int x3)]) hx hb dX0_still_84 hl (by decide) rfl (fun ls hl => ?_)
              refine lv_iload hx hb dX0_still_86 (lv_at hl 1 rfl) ?_
              have hJ21 : wX0_still p l e s m below meth c G h a0 x1 res 0 0 H locs (F0 m 101 ls [.int (if o10 ≤ 0 then x2 else (if x2 < (v15 * (if v18 = (iI 2) then (o10 - (iI 1)) else o10)) then (v15 * (if v18 = (iI 2) then (o10 - (iI 1)) else o10)) else x2))]) := by
                refine lv_topi (fun x_23 ex_23 => ?_)
                have ho3 := nmI_s ho3 x_23 ex_23
                refine lv_istore_n (lv' := [(2, .int x_23), (5, .int (v15 * (if v18 = (iI 2) then (o10 - (iI 1)) else o10))), (4, .int o10), (0, .ref a0), (1, .int x1), (3, .int x3)]) hx hb dX0_still_101 rfl hl (by decide) rfl (fun ls hl => ?_)
                refine lv_iinc (v := (x3 + iI 1)) (lv' := [(3, .int (x3 + iI 1)), (2, .int x_23), (5, .int (v15 * (if v18 = (iI 2) then (o10 - (iI 1)) else o10))), (4, .int o10), (0, .ref a0), (1, .int x1)]) hx hb dX0_still_102 hl (k := 5) rfl rfl (by decide) rfl (fun ls hl => ?_)
                refine lv_goto (tgt := 15) hx hb dX0_still_105 (by decide) ?_
                exact ih3 _ _ ho3 _ _ _ hw (lv_sub hl [4, 5, 1, 0] rfl)
              refine lv_if_le (tgt := 100) hx hb dX0_still_88 (by decide) (fun c22 => ?_) (fun c22 => ?_)
              · refine lv_iload_n hx hb dX0_still_100 rfl (lv_at hl 4 rfl) ?_
                rw [if_pos c22] at hJ21
                exact hJ21
              · refine lv_iload_n hx hb dX0_still_91 rfl (lv_at hl 4 rfl) ?_
                refine lv_iload hx hb dX0_still_92 (lv_at hl 0 rfl) ?_
                refine va_mmax hx hb (hml.trans hl.1.symm) hown (hts _ q759) (hts _ q430) (hts _ q100) (hts _ q431) (Nat.le_of_ble_eq_true rfl) (Nat.le_of_ble_eq_true rfl) (Nat.le_of_ble_eq_true rfl) (Nat.le_of_ble_eq_true rfl) dX0_still_94 ?_
                refine lv_goto (tgt := 101) hx hb dX0_still_97 (by decide) ?_
                rw [if_neg c22] at hJ21
                exact hJ21
            refine lv_icmp_ne (tgt := 81) hx hb dX0_still_71 (by decide) (fun c20 => ?_) (fun c20 => ?_)
            · refine lv_iload hx hb dX0_still_81 (lv_at hl 0 rfl) ?_
              rw [if_neg c20] at hJ19
              exact hJ19
            · refine lv_iload hx hb dX0_still_74 (lv_at hl 0 rfl) ?_
              refine lv_iconst (v := iI 1) hx hb dX0_still_76 rfl ?_
              refine lv_isub hx hb dX0_still_77 ?_
              refine lv_goto (tgt := 83) hx hb dX0_still_78 (by decide) ?_
              rw [if_pos c20] at hJ19
              exact hJ19
          refine lv_icmp_ne (tgt := 50) hx hb dX0_still_36 (by decide) (fun c11 => ?_) (fun c11 => ?_)
          · have ho10 := oi_f ho10 c11
            refine lv_iconst (v := iI 0) hx hb dX0_still_50 rfl ?_
            obtain rfl := Option.some.inj ho10
            exact hJ10 _ _ _ hw (lv_sub hl [0, 1, 2, 3] rfl)
          · have ho10 := oi_t ho10 c11
            refine lv_aload_n hx hb dX0_still_39 rfl (lv_at hl 0 rfl) ?_
            obtain ⟨r12, er12, ho10⟩ := ob_s ho10
            refine ep_get (C := RX0) (T := TX0) (N := 25) (ci := 0) hx hb hts in_X0 hown hK hw rfl 3 (by decide) q930 (gR_f er12) dX0_still_40 ?_
            refine lv_iload_n hx hb dX0_still_43 rfl (lv_at hl 3 rfl) ?_
            obtain ⟨v13, ev13, ho10⟩ := ob_s ho10
            refine ep_calli0 (va_runV (As := [.int x3]) (rest := []) ⟨hx, hb, hml, hown, hts⟩ (metX1_returns l G h r12 x3 ev13) (cwV 1 hts (lw_V q579 q580 q581 q86 q582) rfl rfl rfl hdX1_returns ⟨Nat.le_of_ble_eq_true rfl, Nat.le_of_ble_eq_true rfl⟩) (ep_preV hK hZ hw rfl (ckX1_returns ev13)) rfl rfl hl.1 rfl (lv_room (Nat.le_of_ble_eq_true rfl)) dX0_still_44 ⟨Nat.le_of_ble_eq_true rfl, Nat.le_of_ble_eq_true rfl⟩) hw (fun H locs hw => ?_)
            refine lv_goto (tgt := 51) hx hb dX0_still_47 (by decide) ?_
            obtain rfl := Option.some.inj ho10
            exact hJ10 _ _ _ hw (lv_sub hl [0, 1, 2, 3] rfl)
    exact hL3 FUEL _ _ ho3 _ _ _ hw (lv_sub hl [2, 3, 1, 0] rfl)
  · have hf := oi_t hf c2
    refine lv_iconst (v := iI (-1)) hx hb dX0_still_8 rfl ?_
    exact ep_retiR hx hb hr hlocks hw hf dX0_still_9
theorem hdX0_meets : yX0_meets.cls = RX0 ∧ yX0_meets.cls ≠ "java/lang/invoke/MethodHandle" ∧ yX0_meets.cls ≠ "java/lang/invoke/VarHandle" ∧ (parseMethodDescriptor yX0_meets.desc).map (fun d => d.parameters.length) = some 1 := by decide +kernel
theorem ckX0_meets {h : Hp} {a0 : Nat} {x1 : Int32} {res : Int32} (hf : fX0_meets h a0 x1 = some res) : ep_cls h a0 = some 0 := by
  unfold fX0_meets at hf
  exact (oi_c hf).1
abbrev wX0_meets (p : Program) (l : Launch) (e : Env) (s : State) (m : MethodId) (below : List Frame) (meth : Method) (c : Code) (G : EG) (h : Hp) (a0 : Nat) (x1 : Int32) (res : Int32) (k9 n9 : Nat) (H : Heap) (locs : List Loc) (g : JFrame) : Prop := W p l e (headSpec (ws_ yX0_meets cX0_meets 4 (some .int)) ({ frames := 6, cells := 0, slots := 0, locals := 164 } : Room)).room s m ([.ref a0, .int x1] : List Value).toArray below meth c H locs k9 n9 (MQ below (ep_Qi G ep_cl h res) ([.ref a0, .int x1] : List Value).toArray s 0 0 (ep_A G)) g
set_option maxHeartbeats 4000000 in
theorem metX0_meets (l : Launch) (G : EG) (h : Hp) (a0 : Nat) (x1 : Int32) {res : Int32} (hf : fX0_meets h a0 x1 = some res) : Met l yX0_meets (ws_ yX0_meets cX0_meets 4 (some .int)) ({ frames := 6, cells := 0, slots := 0, locals := 164 } : Room) (ep_Pc G ep_cl h [.ref a0, .int x1]) (ep_Qi G ep_cl h res) 0 0 (ep_A G) := by
  refine Met.ofW (cc := cX0_meets) (maxL := 4) (ret := (some .int)) (by decide) rfl ?_
  intro p e s m args below meth c s₁ B hml hv
  obtain ⟨rfl, hR, hK, hZ⟩ := hv
  have hx := B.exec
  have hb := B.bytes
  have hr := B.returns
  have hlocks := B.notSynchronized
  have hts := atoms_spec (ws := (ws_ yX0_meets cX0_meets 4 (some .int))) B.pre
  have hts : ∀ w ∈ lw_all, w.before _ s = true := fun w h => hts w (List.mem_cons_of_mem _ h)
  have hown : s.vm.findClass RX0 = some m.cls := findClass_of_methodNamed B.named
  have hw : ep_W G ep_cl h s s.heap [] := ⟨hR, va_S.rf⟩
  have hl := lv_entry ([.ref a0, .int x1]) (n := 4) (Nat.le_of_ble_eq_true rfl)
  rw [lg_entry_eq]
  generalize (lg_sl ([.ref a0, .int x1]) ++ List.replicate (4 - (lg_sl ([.ref a0, .int x1])).length) Slot.unset).toArray = ls at hl ⊢
  have hl : lv_has ls 4 [(0, .ref a0), (1, .int x1)] := hl
  unfold fX0_meets at hf
  have hf := (oi_c hf).2
  show wX0_meets p l e s m below meth c G h a0 x1 res 0 0 s.heap ([]) (F0 m 0 ls [])
  refine lv_aload_n hx hb dX0_meets_0 rfl (lv_at hl 0 rfl) ?_
  refine lv_iload_n hx hb dX0_meets_1 rfl (lv_at hl 1 rfl) ?_
  obtain ⟨v1, ev1, hf⟩ := ob_s hf
  refine ep_calli0 (va_runV (As := [.int x1]) (rest := []) ⟨hx, hb, hml, hown, hts⟩ (metX0_isEcho l G h a0 x1 ev1) (cwV 1 hts (lw_V q575 q577 qs15 q85 q578) rfl rfl rfl hdX0_isEcho ⟨Nat.le_of_ble_eq_true rfl, Nat.le_of_ble_eq_true rfl⟩) (ep_preV hK hZ hw rfl (ckX0_isEcho ev1)) rfl rfl hl.1 rfl (lv_room (Nat.le_of_ble_eq_true rfl)) dX0_meets_2 ⟨Nat.le_of_ble_eq_true rfl, Nat.le_of_ble_eq_true rfl⟩) hw (fun H locs hw => ?_)
  refine lv_if_ne (tgt := 10) hx hb dX0_meets_5 (by decide) (fun c2 => ?_) (fun c2 => ?_)
  · have hf := oi_f hf c2
    refine lv_iconst (v := iI 0) hx hb dX0_meets_10 rfl ?_
    refine lv_istore_n (lv' := [(2, .int (iI 0)), (0, .ref a0), (1, .int x1)]) hx hb dX0_meets_11 rfl hl (by decide) rfl (fun ls hl => ?_)
    refine lv_iconst (v := iI 0) hx hb dX0_meets_12 rfl ?_
    refine lv_istore_n (lv' := [(3, .int (iI 0)), (2, .int (iI 0)), (0, .ref a0), (1, .int x1)]) hx hb dX0_meets_13 rfl hl (by decide) rfl (fun ls hl => ?_)
    obtain ⟨o3, ho3, hf⟩ := ob_s hf
    have hJ3 : ∀ (H : Heap) (locs : List Loc) (ls : Array Slot), ep_W G ep_cl h s H locs → lv_has ls 4 [(2, .int o3)] → wX0_meets p l e s m below meth c G h a0 x1 res 0 0 H locs (F0 m 51 ls []) := by
      intro H locs ls hw hl
      refine lv_iload_n hx hb dX0_meets_51 rfl (lv_at hl 0 rfl) ?_
      exact ep_retiR hx hb hr hlocks hw hf dX0_meets_52
    have hL3 : ∀ (fu : Nat) (x2 : Int32) (x3 : Int32), fX0_meets_L14 h a0 x1 fu x2 x3 = some o3 → ∀ (H : Heap) (locs : List Loc) (ls : Array Slot), ep_W G ep_cl h s H locs → lv_has ls 4 [(0, .ref a0), (1, .int x1), (2, .int x2), (3, .int x3)] → wX0_meets p l e s m below meth c G h a0 x1 res 0 0 H locs (F0 m 14 ls []) := by
      intro fu
      induction fu with
      | zero => intro x2 x3 ho3; cases ho3
      | succ fu ih3 =>
        intro x2 x3 ho3 H locs ls hw hl
        rw [fX0_meets_L14] at ho3
        refine lv_iload_n hx hb dX0_meets_14 rfl (lv_at hl 3 rfl) ?_
        refine lv_aload_n hx hb dX0_meets_15 rfl (lv_at hl 0 rfl) ?_
        obtain ⟨v4, ev4, ho3⟩ := ob_s ho3
        refine ep_get (C := RX0) (T := TX0) (N := 25) (ci := 0) hx hb hts in_X0 hown hK hw rfl 6 (by decide) q933 (gI_f ev4) dX0_meets_16 ?_
        refine lv_icmp_ge (tgt := 51) hx hb dX0_meets_19 (by decide) (fun c5 => ?_) (fun c5 => ?_)
        · have ho3 := oi_t ho3 c5
          obtain rfl := Option.some.inj ho3
          exact hJ3 _ _ _ hw (lv_sub hl [2] rfl)
        · have ho3 := oi_f ho3 c5
          refine lv_iload_n hx hb dX0_meets_22 rfl (lv_at hl 2 rfl) ?_
          refine lv_aload_n hx hb dX0_meets_23 rfl (lv_at hl 0 rfl) ?_
          refine lv_aload_n hx hb dX0_meets_24 rfl (lv_at hl 0 rfl) ?_
          obtain ⟨r6, er6, ho3⟩ := ob_s ho3
          refine ep_get (C := RX0) (T := TX0) (N := 25) (ci := 0) hx hb hts in_X0 hown hK hw rfl 3 (by decide) q930 (gR_f er6) dX0_meets_25 ?_
          refine lv_iload_n hx hb dX0_meets_28 rfl (lv_at hl 1 rfl) ?_
          refine lv_iload_n hx hb dX0_meets_29 rfl (lv_at hl 3 rfl) ?_
          obtain ⟨v7, ev7, ho3⟩ := ob_s ho3
          refine ep_calli0 (va_runV (As := [.ref r6, .int x1, .int x3]) (rest := [.int x2]) ⟨hx, hb, hml, hown, hts⟩ (metX0_doesMeet l G h a0 r6 x1 x3 ev7) (cwV 3 hts (lw_V q727 q729 qs22 q85 q730) rfl rfl rfl hdX0_doesMeet ⟨Nat.le_of_ble_eq_true rfl, Nat.le_of_ble_eq_true rfl⟩) (ep_preV hK hZ hw rfl (ckX0_doesMeet ev7)) rfl rfl hl.1 rfl (lv_room (Nat.le_of_ble_eq_true rfl)) dX0_meets_30 ⟨Nat.le_of_ble_eq_true rfl, Nat.le_of_ble_eq_true rfl⟩) hw (fun H locs hw => ?_)
          have hJ8 : wX0_meets p l e s m below meth c G h a0 x1 res 0 0 H locs (F0 m 43 ls [.int (if v7 = 0 then iI 0 else ((iI 1) <<< (x3 &&& 31))), .int x2]) := by
            refine lv_ior hx hb dX0_meets_43 ?_
            refine lv_istore_n (lv' := [(2, .int (x2 ||| (if v7 = 0 then iI 0 else ((iI 1) <<< (x3 &&& 31))))), (0, .ref a0), (1, .int x1), (3, .int x3)]) hx hb dX0_meets_44 rfl hl (by decide) rfl (fun ls hl => ?_)
            refine lv_iinc (v := (x3 + iI 1)) (lv' := [(3, .int (x3 + iI 1)), (2, .int (x2 ||| (if v7 = 0 then iI 0 else ((iI 1) <<< (x3 &&& 31))))), (0, .ref a0), (1, .int x1)]) hx hb dX0_meets_45 hl (k := 3) rfl rfl (by decide) rfl (fun ls hl => ?_)
            refine lv_goto (tgt := 14) hx hb dX0_meets_48 (by decide) ?_
            exact ih3 _ _ ho3 _ _ _ hw (lv_sub hl [2, 3, 1, 0] rfl)
          refine lv_if_eq (tgt := 42) hx hb dX0_meets_33 (by decide) (fun c9 => ?_) (fun c9 => ?_)
          · refine lv_iconst (v := iI 0) hx hb dX0_meets_42 rfl ?_
            rw [if_pos c9] at hJ8
            exact hJ8
          · refine lv_iconst (v := iI 1) hx hb dX0_meets_36 rfl ?_
            refine lv_iload_n hx hb dX0_meets_37 rfl (lv_at hl 3 rfl) ?_
            refine lv_ishl hx hb dX0_meets_38 ?_
            refine lv_goto (tgt := 43) hx hb dX0_meets_39 (by decide) ?_
            rw [if_neg c9] at hJ8
            exact hJ8
    exact hL3 FUEL _ _ ho3 _ _ _ hw (lv_sub hl [2, 3, 1, 0] rfl)
  · have hf := oi_t hf c2
    refine lv_iconst (v := iI (-1)) hx hb dX0_meets_8 rfl ?_
    exact ep_retiR hx hb hr hlocks hw hf dX0_meets_9
theorem hdX0_sell : yX0_sell.cls = RX0 ∧ yX0_sell.cls ≠ "java/lang/invoke/MethodHandle" ∧ yX0_sell.cls ≠ "java/lang/invoke/VarHandle" ∧ (parseMethodDescriptor yX0_sell.desc).map (fun d => d.parameters.length) = some 2 := by decide +kernel
theorem ckX0_sell {h : Hp} {a0 : Nat} {x1 : Int32} {x2 : Int32} {res : Int32 × Hp} (hf : fX0_sell h a0 x1 x2 = some res) : ep_cls h a0 = some 0 := by
  unfold fX0_sell at hf
  exact (oi_c hf).1
abbrev wX0_sell (p : Program) (l : Launch) (e : Env) (s : State) (m : MethodId) (below : List Frame) (meth : Method) (c : Code) (G : EG) (h : Hp) (a0 : Nat) (x1 : Int32) (x2 : Int32) (res : Int32 × Hp) (k9 n9 : Nat) (H : Heap) (locs : List Loc) (g : JFrame) : Prop := W p l e (headSpec (ws_ yX0_sell cX0_sell 3 (some .int)) ({ frames := 6, cells := 0, slots := 0, locals := 164 } : Room)).room s m ([.ref a0, .int x1, .int x2] : List Value).toArray below meth c H locs k9 n9 (MQ below (ep_Qi G ep_cl res.2 res.1) ([.ref a0, .int x1, .int x2] : List Value).toArray s 0 0 (ep_A G)) g
set_option maxHeartbeats 4000000 in
theorem metX0_sell (l : Launch) (G : EG) (h : Hp) (a0 : Nat) (x1 : Int32) (x2 : Int32) {res : Int32 × Hp} (hf : fX0_sell h a0 x1 x2 = some res) : Met l yX0_sell (ws_ yX0_sell cX0_sell 3 (some .int)) ({ frames := 6, cells := 0, slots := 0, locals := 164 } : Room) (ep_Pc G ep_cl h [.ref a0, .int x1, .int x2]) (ep_Qi G ep_cl res.2 res.1) 0 0 (ep_A G) := by
  refine Met.ofW (cc := cX0_sell) (maxL := 3) (ret := (some .int)) (by decide) rfl ?_
  intro p e s m args below meth c s₁ B hml hv
  obtain ⟨rfl, hR, hK, hZ⟩ := hv
  have hx := B.exec
  have hb := B.bytes
  have hr := B.returns
  have hlocks := B.notSynchronized
  have hts := atoms_spec (ws := (ws_ yX0_sell cX0_sell 3 (some .int))) B.pre
  have hts : ∀ w ∈ lw_all, w.before _ s = true := fun w h => hts w (List.mem_cons_of_mem _ h)
  have hown : s.vm.findClass RX0 = some m.cls := findClass_of_methodNamed B.named
  have hw : ep_W G ep_cl h s s.heap [] := ⟨hR, va_S.rf⟩
  have hl := lv_entry ([.ref a0, .int x1, .int x2]) (n := 3) (Nat.le_of_ble_eq_true rfl)
  rw [lg_entry_eq]
  generalize (lg_sl ([.ref a0, .int x1, .int x2]) ++ List.replicate (3 - (lg_sl ([.ref a0, .int x1, .int x2])).length) Slot.unset).toArray = ls at hl ⊢
  have hl : lv_has ls 3 [(0, .ref a0), (1, .int x1), (2, .int x2)] := hl
  unfold fX0_sell at hf
  have hf := (oi_c hf).2
  show wX0_sell p l e s m below meth c G h a0 x1 x2 res 0 0 s.heap ([]) (F0 m 0 ls [])
  refine lv_aload_n hx hb dX0_sell_0 rfl (lv_at hl 0 rfl) ?_
  refine lv_iload_n hx hb dX0_sell_1 rfl (lv_at hl 1 rfl) ?_
  obtain ⟨v1, ev1, hf⟩ := ob_s hf
  refine ep_calli0 (va_runV (As := [.int x1]) (rest := []) ⟨hx, hb, hml, hown, hts⟩ (metX0_isEcho l G h a0 x1 ev1) (cwV 1 hts (lw_V q575 q577 qs15 q85 q578) rfl rfl rfl hdX0_isEcho ⟨Nat.le_of_ble_eq_true rfl, Nat.le_of_ble_eq_true rfl⟩) (ep_preV hK hZ hw rfl (ckX0_isEcho ev1)) rfl rfl hl.1 rfl (lv_room (Nat.le_of_ble_eq_true rfl)) dX0_sell_2 ⟨Nat.le_of_ble_eq_true rfl, Nat.le_of_ble_eq_true rfl⟩) hw (fun H locs hw => ?_)
  refine lv_if_eq (tgt := 16) hx hb dX0_sell_5 (by decide) (fun c2 => ?_) (fun c2 => ?_)
  · have hf := oi_t hf c2
    refine lv_iconst (v := iI (-1)) hx hb dX0_sell_16 rfl ?_
    exact ep_retiW hx hb hr hlocks hw hf dX0_sell_17
  · have hf := oi_f hf c2
    refine lv_aload_n hx hb dX0_sell_8 rfl (lv_at hl 0 rfl) ?_
    refine lv_iload_n hx hb dX0_sell_9 rfl (lv_at hl 2 rfl) ?_
    obtain ⟨v3, ev3, hf⟩ := ob_s hf
    refine ep_calli0 (va_runV (As := [.int x2]) (rest := []) ⟨hx, hb, hml, hown, hts⟩ (metX0_isOrder l G h a0 x2 ev3) (cwV 1 hts (lw_V q617 q619 qs16 q85 q620) rfl rfl rfl hdX0_isOrder ⟨Nat.le_of_ble_eq_true rfl, Nat.le_of_ble_eq_true rfl⟩) (ep_preV hK hZ hw rfl (ckX0_isOrder ev3)) rfl rfl hl.1 rfl (lv_room (Nat.le_of_ble_eq_true rfl)) dX0_sell_10 ⟨Nat.le_of_ble_eq_true rfl, Nat.le_of_ble_eq_true rfl⟩) hw (fun H locs hw => ?_)
    refine lv_if_ne (tgt := 18) hx hb dX0_sell_13 (by decide) (fun c4 => ?_) (fun c4 => ?_)
    · have hf := oi_f hf c4
      refine lv_aload_n hx hb dX0_sell_18 rfl (lv_at hl 0 rfl) ?_
      refine lv_aload_n hx hb dX0_sell_19 rfl (lv_at hl 0 rfl) ?_
      obtain ⟨r5, er5, hf⟩ := ob_s hf
      refine ep_get (C := RX0) (T := TX0) (N := 25) (ci := 0) hx hb hts in_X0 hown hK hw rfl 3 (by decide) q930 (gR_f er5) dX0_sell_20 ?_
      refine lv_iload_n hx hb dX0_sell_23 rfl (lv_at hl 1 rfl) ?_
      refine lv_iload_n hx hb dX0_sell_24 rfl (lv_at hl 2 rfl) ?_
      obtain ⟨v6, ev6, hf⟩ := ob_s hf
      refine ep_calli0 (va_runV (As := [.ref r5, .int x1, .int x2]) (rest := []) ⟨hx, hb, hml, hown, hts⟩ (metX0_doesMeet l G h a0 r5 x1 x2 ev6) (cwV 3 hts (lw_V q727 q729 qs22 q85 q730) rfl rfl rfl hdX0_doesMeet ⟨Nat.le_of_ble_eq_true rfl, Nat.le_of_ble_eq_true rfl⟩) (ep_preV hK hZ hw rfl (ckX0_doesMeet ev6)) rfl rfl hl.1 rfl (lv_room (Nat.le_of_ble_eq_true rfl)) dX0_sell_25 ⟨Nat.le_of_ble_eq_true rfl, Nat.le_of_ble_eq_true rfl⟩) hw (fun H locs hw => ?_)
      refine lv_if_ne (tgt := 34) hx hb dX0_sell_28 (by decide) (fun c7 => ?_) (fun c7 => ?_)
      · have hf := oi_f hf c7
        refine lv_aload_n hx hb dX0_sell_34 rfl (lv_at hl 0 rfl) ?_
        obtain ⟨r8, er8, hf⟩ := ob_s hf
        refine ep_get (C := RX0) (T := TX0) (N := 25) (ci := 0) hx hb hts in_X0 hown hK hw rfl 3 (by decide) q930 (gR_f er8) dX0_sell_35 ?_
        obtain ⟨r9, er9, hf⟩ := ob_s hf
        refine ep_getN (C := RX1) (T := TX1) (N := 11) (ci := 1) hx hb hts in_X1 hown hK hw rfl 6 (by decide) q165 (gR_f er9) dX0_sell_38 ?_
        refine lv_iload_n hx hb dX0_sell_41 rfl (lv_at hl 1 rfl) ?_
        refine lv_bipush (v := iI (-4)) hx hb dX0_sell_42 (by decide) ?_
        obtain ⟨h10, eh10, hf⟩ := ob_s hf
        refine ep_iast hx hb hK hw eh10 dX0_sell_44 (fun H locs hw => ?_)
        refine lv_aload_n hx hb dX0_sell_45 rfl (lv_at hl 0 rfl) ?_
        obtain ⟨r11, er11, hf⟩ := ob_s hf
        refine ep_get (C := RX0) (T := TX0) (N := 25) (ci := 0) hx hb hts in_X0 hown hK hw rfl 3 (by decide) q930 (gR_f er11) dX0_sell_46 ?_
        refine lv_dup hx hb dX0_sell_49 rfl ?_
        obtain ⟨v12, ev12, hf⟩ := ob_s hf
        refine ep_getN (C := RX1) (T := TX1) (N := 11) (ci := 1) hx hb hts in_X1 hown hK hw rfl 8 (by decide) q170 (gI_f ev12) dX0_sell_50 ?_
        refine lv_iconst (v := iI 1) hx hb dX0_sell_53 rfl ?_
        refine lv_iload_n hx hb dX0_sell_54 rfl (lv_at hl 2 rfl) ?_
        refine lv_ishl hx hb dX0_sell_55 ?_
        refine lv_ior hx hb dX0_sell_56 ?_
        obtain ⟨h13, eh13, hf⟩ := ob_s hf
        refine ep_putN (C := RX1) (T := TX1) (N := 11) (ci := 1) hx hb hts in_X1 tyX1 tyX1_ok nmX1 hown hK hw rfl (by decide) 8 (by decide) q170 rfl rfl rfl eh13 dX0_sell_57 (fun H locs hw => ?_)
        refine lv_aload_n hx hb dX0_sell_60 rfl (lv_at hl 0 rfl) ?_
        obtain ⟨r14, er14, hf⟩ := ob_s hf
        refine ep_get (C := RX0) (T := TX0) (N := 25) (ci := 0) hx hb hts in_X0 hown hK hw rfl 3 (by decide) q930 (gR_f er14) dX0_sell_61 ?_
        refine lv_dup hx hb dX0_sell_64 rfl ?_
        obtain ⟨v15, ev15, hf⟩ := ob_s hf
        refine ep_getN (C := RX1) (T := TX1) (N := 11) (ci := 1) hx hb hts in_X1 hown hK hw rfl 10 (by decide) q174 (gI_f ev15) dX0_sell_65 ?_
        refine lv_aload_n hx hb dX0_sell_68 rfl (lv_at hl 0 rfl) ?_
        obtain ⟨r16, er16, hf⟩ := ob_s hf
        refine ep_get (C := RX0) (T := TX0) (N := 25) (ci := 0) hx hb hts in_X0 hown hK hw rfl 5 (by decide) q932 (gR_f er16) dX0_sell_69 ?_
        refine lv_iload_n hx hb dX0_sell_72 rfl (lv_at hl 2 rfl) ?_
        obtain ⟨v17, ev17, hf⟩ := ob_s hf
        refine ep_aald 6 (by decide) rfl hx hb hK hw ev17 dX0_sell_73 ?_
        obtain ⟨v18, ev18, hf⟩ := ob_s hf
        refine ep_getN (C := RX7) (T := TX7) (N := 4) (ci := 7) hx hb hts in_X7 hown hK hw rfl 3 (by decide) q515 (gI_f ev18) dX0_sell_74 ?_
        refine lv_iadd hx hb dX0_sell_77 ?_
        obtain ⟨h19, eh19, hf⟩ := ob_s hf
        refine ep_putN (C := RX1) (T := TX1) (N := 11) (ci := 1) hx hb hts in_X1 tyX1 tyX1_ok nmX1 hown hK hw rfl (by decide) 10 (by decide) q174 rfl rfl rfl eh19 dX0_sell_78 (fun H locs hw => ?_)
        refine lv_aload_n hx hb dX0_sell_81 rfl (lv_at hl 0 rfl) ?_
        obtain ⟨r20, er20, hf⟩ := ob_s hf
        refine ep_get (C := RX0) (T := TX0) (N := 25) (ci := 0) hx hb hts in_X0 hown hK hw rfl 3 (by decide) q930 (gR_f er20) dX0_sell_82 ?_
        obtain ⟨v21, ev21, hf⟩ := ob_s hf
        refine ep_getN (C := RX1) (T := TX1) (N := 11) (ci := 1) hx hb hts in_X1 hown hK hw rfl 10 (by decide) q174 (gI_f ev21) dX0_sell_85 ?_
        exact ep_retiW hx hb hr hlocks hw hf dX0_sell_88
      · have hf := oi_t hf c7
        refine lv_bipush (v := iI (-2)) hx hb dX0_sell_31 (by decide) ?_
        exact ep_retiW hx hb hr hlocks hw hf dX0_sell_33
    · have hf := oi_t hf c4
      refine lv_iconst (v := iI (-1)) hx hb dX0_sell_16 rfl ?_
      exact ep_retiW hx hb hr hlocks hw hf dX0_sell_17
theorem hdX0_sells : yX0_sells.cls = RX0 ∧ yX0_sells.cls ≠ "java/lang/invoke/MethodHandle" ∧ yX0_sells.cls ≠ "java/lang/invoke/VarHandle" ∧ (parseMethodDescriptor yX0_sells.desc).map (fun d => d.parameters.length) = some 4 := by decide +kernel
theorem ckX0_sells {d : Nat} {h : Hp} {a0 : Nat} {a1 : Nat} {x2 : Int32} {x3 : Int32} {x4 : Int32} {res : Hp} (hf : fX0_sells d h a0 a1 x2 x3 x4 = some res) : ep_cls h a0 = some 0 := by
  cases d with
  | zero => cases hf
  | succ d =>
  rw [fX0_sells] at hf
  unfold fX0_sells_B at hf
  exact (oi_c hf).1
abbrev wX0_sells (p : Program) (l : Launch) (e : Env) (s : State) (m : MethodId) (below : List Frame) (meth : Method) (c : Code) (G : EG) (d : Nat) (h : Hp) (a0 : Nat) (a1 : Nat) (x2 : Int32) (x3 : Int32) (x4 : Int32) (res : Hp) (k9 n9 : Nat) (H : Heap) (locs : List Loc) (g : JFrame) : Prop := W p l e (headSpec (ws_ yX0_sells cX0_sells 6 none) ({ frames := 6 + (d + 1), cells := 0, slots := 0, locals := 164 + (d + 1) * 25 } : Room)).room s m ([.ref a0, .ref a1, .int x2, .int x3, .int x4] : List Value).toArray below meth c H locs k9 n9 (MQ below (ep_Qv G ep_cl res) ([.ref a0, .ref a1, .int x2, .int x3, .int x4] : List Value).toArray s 0 0 (ep_A G)) g
set_option maxHeartbeats 4000000 in
theorem metX0_sells (l : Launch) (G : EG) : ∀ (d : Nat) (h : Hp) (a0 : Nat) (a1 : Nat) (x2 : Int32) (x3 : Int32) (x4 : Int32) {res : Hp} (hf : fX0_sells d h a0 a1 x2 x3 x4 = some res), Met l yX0_sells (ws_ yX0_sells cX0_sells 6 none) ({ frames := 6 + d, cells := 0, slots := 0, locals := 164 + d * 25 } : Room) (ep_Pc G ep_cl h [.ref a0, .ref a1, .int x2, .int x3, .int x4]) (ep_Qv G ep_cl res) 0 0 (ep_A G) := by
  intro d
  induction d with
  | zero => intro h a0 a1 x2 x3 x4 res hf; cases hf
  | succ d ihM =>
  intro h a0 a1 x2 x3 x4 res hf
  refine Met.ofW (cc := cX0_sells) (maxL := 6) (ret := none) (by decide) rfl ?_
  intro p e s m args below meth c s₁ B hml hv
  obtain ⟨rfl, hR, hK, hZ⟩ := hv
  have hx := B.exec
  have hb := B.bytes
  have hr := B.returns
  have hlocks := B.notSynchronized
  have hts := atoms_spec (ws := (ws_ yX0_sells cX0_sells 6 none)) B.pre
  have hts : ∀ w ∈ lw_all, w.before _ s = true := fun w h => hts w (List.mem_cons_of_mem _ h)
  have hown : s.vm.findClass RX0 = some m.cls := findClass_of_methodNamed B.named
  have hw : ep_W G ep_cl h s s.heap [] := ⟨hR, va_S.rf⟩
  have hl := lv_entry ([.ref a0, .ref a1, .int x2, .int x3, .int x4]) (n := 6) (Nat.le_of_ble_eq_true rfl)
  rw [lg_entry_eq]
  generalize (lg_sl ([.ref a0, .ref a1, .int x2, .int x3, .int x4]) ++ List.replicate (6 - (lg_sl ([.ref a0, .ref a1, .int x2, .int x3, .int x4])).length) Slot.unset).toArray = ls at hl ⊢
  have hl : lv_has ls 6 [(0, .ref a0), (1, .ref a1), (2, .int x2), (3, .int x3), (4, .int x4)] := hl
  rw [fX0_sells] at hf
  unfold fX0_sells_B at hf
  have hf := (oi_c hf).2
  show wX0_sells p l e s m below meth c G d h a0 a1 x2 x3 x4 res 0 0 s.heap ([]) (F0 m 0 ls [])
  refine lv_iload_n hx hb dX0_sells_0 rfl (lv_at hl 2 rfl) ?_
  refine lv_aload_n hx hb dX0_sells_1 rfl (lv_at hl 0 rfl) ?_
  obtain ⟨v1, ev1, hf⟩ := ob_s hf
  refine ep_get (C := RX0) (T := TX0) (N := 25) (ci := 0) hx hb hts in_X0 hown hK hw rfl 6 (by decide) q933 (gI_f ev1) dX0_sells_2 ?_
  refine lv_icmp_ne (tgt := 38) hx hb dX0_sells_5 (by decide) (fun c2 => ?_) (fun c2 => ?_)
  · have hf := oi_f hf c2
    refine lv_aload_n hx hb dX0_sells_38 rfl (lv_at hl 0 rfl) ?_
    obtain ⟨r3, er3, hf⟩ := ob_s hf
    refine ep_get (C := RX0) (T := TX0) (N := 25) (ci := 0) hx hb hts in_X0 hown hK hw rfl 8 (by decide) q935 (gR_f er3) dX0_sells_39 ?_
    refine lv_iload_n hx hb dX0_sells_42 rfl (lv_at hl 2 rfl) ?_
    refine lv_bipush (v := iI (-4)) hx hb dX0_sells_43 (by decide) ?_
    obtain ⟨h4, eh4, hf⟩ := ob_s hf
    refine ep_iast hx hb hK hw eh4 dX0_sells_45 (fun H locs hw => ?_)
    refine lv_aload_n hx hb dX0_sells_46 rfl (lv_at hl 0 rfl) ?_
    refine lv_aload_n hx hb dX0_sells_47 rfl (lv_at hl 1 rfl) ?_
    refine lv_iload_n hx hb dX0_sells_48 rfl (lv_at hl 2 rfl) ?_
    refine lv_iconst (v := iI 1) hx hb dX0_sells_49 rfl ?_
    refine lv_iadd hx hb dX0_sells_50 ?_
    refine lv_iload_n hx hb dX0_sells_51 rfl (lv_at hl 3 rfl) ?_
    refine lv_iload hx hb dX0_sells_52 (lv_at hl 4 rfl) ?_
    obtain ⟨o5, eo5, hf⟩ := ob_s hf
    refine ep_callv0 (va_runV (As := [.ref a1, .int (x2 + (iI 1)), .int x3, .int x4]) (rest := []) ⟨hx, hb, hml, hown, hts⟩ (ihM h4 a0 a1 (x2 + (iI 1)) x3 x4 eo5) (cwV 4 hts (lw_V q776 q778 qs26 q85 q779) rfl rfl rfl hdX0_sells ⟨by dsimp only [headSpec]; omega, by dsimp only [headSpec]; omega⟩) (ep_preV hK hZ hw rfl (ckX0_sells eo5)) rfl rfl hl.1 rfl (lv_room (Nat.le_of_ble_eq_true rfl)) dX0_sells_54 ⟨Nat.le_of_ble_eq_true rfl, Nat.le_of_ble_eq_true rfl⟩) hw (fun H locs hw => ?_)
    refine lv_iconst (v := iI 0) hx hb dX0_sells_57 rfl ?_
    refine lv_istore (lv' := [(5, .int (iI 0)), (0, .ref a0), (1, .ref a1), (2, .int x2), (3, .int x3), (4, .int x4)]) hx hb dX0_sells_58 hl (by decide) rfl (fun ls hl => ?_)
    obtain ⟨o6, ho6, hf⟩ := ob_s hf
    have hJ6 : ∀ (H : Heap) (locs : List Loc) (ls : Array Slot), ep_W G ep_cl o6 s H locs → lv_has ls 6 [] → wX0_sells p l e s m below meth c G d h a0 a1 x2 x3 x4 res 0 0 H locs (F0 m 129 ls []) := by
      intro H locs ls hw hl
      exact ep_retvW hx hb hr hlocks hw hf dX0_sells_129
    have hL6 : ∀ (fu : Nat) (h : Hp) (x5 : Int32), fX0_sells_L60 (fX0_sells d) a0 a1 x2 x3 x4 fu h x5 = some o6 → ∀ (H : Heap) (locs : List Loc) (ls : Array Slot), ep_W G ep_cl h s H locs → lv_has ls 6 [(0, .ref a0), (1, .ref a1), (2, .int x2), (3, .int x3), (4, .int x4), (5, .int x5)] → wX0_sells p l e s m below meth c G d h a0 a1 x2 x3 x4 res 0 0 H locs (F0 m 60 ls []) := by
      intro fu
      induction fu with
      | zero => intro h x5 ho6; cases ho6
      | succ fu ih6 =>
        intro h x5 ho6 H locs ls hw hl
        rw [fX0_sells_L60] at ho6
        refine lv_iload hx hb dX0_sells_60 (lv_at hl 5 rfl) ?_
        refine lv_aload_n hx hb dX0_sells_62 rfl (lv_at hl 1 rfl) ?_
        obtain ⟨v7, ev7, ho6⟩ := ob_s ho6
        refine ep_getN (C := RX1) (T := TX1) (N := 11) (ci := 1) hx hb hts in_X1 hown hK hw rfl 7 (by decide) q167 (gI_f ev7) dX0_sells_63 ?_
        refine lv_icmp_ge (tgt := 129) hx hb dX0_sells_66 (by decide) (fun c8 => ?_) (fun c8 => ?_)
        · have ho6 := oi_t ho6 c8
          obtain rfl := Option.some.inj ho6
          exact hJ6 _ _ _ hw (lv_sub hl [] rfl)
        · have ho6 := oi_f ho6 c8
          refine lv_iload_n hx hb dX0_sells_69 rfl (lv_at hl 3 rfl) ?_
          refine lv_iload hx hb dX0_sells_70 (lv_at hl 5 rfl) ?_
          obtain ⟨v9, ev9, ho6⟩ := ob_s ho6
          refine ep_calli0 (va_runS (As := [.int x3, .int x5]) (rest := []) ⟨hx, hb, hml, hown, hts⟩ (metX0_has l G h x3 x5 ev9) (va_cwS 2 hts (lw_S q731 q427 q85 q428) rfl rfl rfl hsX0_has ⟨by dsimp only [headSpec]; omega, by dsimp only [headSpec]; omega⟩) (ep_preS hK hZ hw) rfl rfl hl.1 rfl (lv_room (Nat.le_of_ble_eq_true rfl)) dX0_sells_72 ⟨Nat.le_of_ble_eq_true rfl, Nat.le_of_ble_eq_true rfl⟩) hw (fun H locs hw => ?_)
          obtain ⟨o10, ho10, ho6⟩ := ob_s ho6
          have hJ10 : ∀ (H : Heap) (locs : List Loc) (ls : Array Slot), ep_W G ep_cl o10 s H locs → lv_has ls 6 [(0, .ref a0), (1, .ref a1), (2, .int x2), (3, .int x3), (4, .int x4), (5, .int x5)] → wX0_sells p l e s m below meth c G d h a0 a1 x2 x3 x4 res 0 0 H locs (F0 m 123 ls []) := by
            intro H locs ls hw hl
            refine lv_iinc (v := (x5 + iI 1)) (lv' := [(5, .int (x5 + iI 1)), (0, .ref a0), (1, .ref a1), (2, .int x2), (3, .int x3), (4, .int x4)]) hx hb dX0_sells_123 hl (k := 5) rfl rfl (by decide) rfl (fun ls hl => ?_)
            refine lv_goto (tgt := 60) hx hb dX0_sells_126 (by decide) ?_
            exact ih6 _ _ ho6 _ _ _ hw (lv_sub hl [1, 2, 3, 4, 5, 0] rfl)
          refine lv_if_ne (tgt := 123) hx hb dX0_sells_75 (by decide) (fun c11 => ?_) (fun c11 => ?_)
          · have ho10 := oi_f ho10 c11
            obtain rfl := Option.some.inj ho10
            exact hJ10 _ _ _ hw (lv_sub hl [0, 1, 2, 3, 4, 5] rfl)
          · have ho10 := oi_t ho10 c11
            refine lv_aload_n hx hb dX0_sells_78 rfl (lv_at hl 0 rfl) ?_
            refine lv_aload_n hx hb dX0_sells_79 rfl (lv_at hl 1 rfl) ?_
            refine lv_iload hx hb dX0_sells_80 (lv_at hl 5 rfl) ?_
            refine lv_iload_n hx hb dX0_sells_82 rfl (lv_at hl 2 rfl) ?_
            obtain ⟨v12, ev12, ho10⟩ := ob_s ho10
            refine ep_calli0 (va_runV (As := [.ref a1, .int x5, .int x2]) (rest := []) ⟨hx, hb, hml, hown, hts⟩ (metX0_doesMeet l G h a0 a1 x5 x2 ev12) (cwV 3 hts (lw_V q727 q729 qs22 q85 q730) rfl rfl rfl hdX0_doesMeet ⟨by dsimp only [headSpec]; omega, by dsimp only [headSpec]; omega⟩) (ep_preV hK hZ hw rfl (ckX0_doesMeet ev12)) rfl rfl hl.1 rfl (lv_room (Nat.le_of_ble_eq_true rfl)) dX0_sells_83 ⟨Nat.le_of_ble_eq_true rfl, Nat.le_of_ble_eq_true rfl⟩) hw (fun H locs hw => ?_)
            refine lv_if_eq (tgt := 123) hx hb dX0_sells_86 (by decide) (fun c13 => ?_) (fun c13 => ?_)
            · have ho10 := oi_t ho10 c13
              obtain rfl := Option.some.inj ho10
              exact hJ10 _ _ _ hw (lv_sub hl [0, 1, 2, 3, 4, 5] rfl)
            · have ho10 := oi_f ho10 c13
              refine lv_aload_n hx hb dX0_sells_89 rfl (lv_at hl 0 rfl) ?_
              obtain ⟨r14, er14, ho10⟩ := ob_s ho10
              refine ep_get (C := RX0) (T := TX0) (N := 25) (ci := 0) hx hb hts in_X0 hown hK hw rfl 8 (by decide) q935 (gR_f er14) dX0_sells_90 ?_
              refine lv_iload_n hx hb dX0_sells_93 rfl (lv_at hl 2 rfl) ?_
              refine lv_iload hx hb dX0_sells_94 (lv_at hl 5 rfl) ?_
              obtain ⟨h15, eh15, ho10⟩ := ob_s ho10
              refine ep_iast hx hb hK hw eh15 dX0_sells_96 (fun H locs hw => ?_)
              refine lv_aload_n hx hb dX0_sells_97 rfl (lv_at hl 0 rfl) ?_
              refine lv_aload_n hx hb dX0_sells_98 rfl (lv_at hl 1 rfl) ?_
              refine lv_iload_n hx hb dX0_sells_99 rfl (lv_at hl 2 rfl) ?_
              refine lv_iconst (v := iI 1) hx hb dX0_sells_100 rfl ?_
              refine lv_iadd hx hb dX0_sells_101 ?_
              refine lv_iload_n hx hb dX0_sells_102 rfl (lv_at hl 3 rfl) ?_
              refine lv_iconst (v := iI 1) hx hb dX0_sells_103 rfl ?_
              refine lv_iload hx hb dX0_sells_104 (lv_at hl 5 rfl) ?_
              refine lv_ishl hx hb dX0_sells_106 ?_
              refine lv_ior hx hb dX0_sells_107 ?_
              refine lv_iload hx hb dX0_sells_108 (lv_at hl 4 rfl) ?_
              refine lv_aload_n hx hb dX0_sells_110 rfl (lv_at hl 0 rfl) ?_
              obtain ⟨r16, er16, ho10⟩ := ob_s ho10
              refine ep_get (C := RX0) (T := TX0) (N := 25) (ci := 0) hx hb hts in_X0 hown hK hw rfl 5 (by decide) q932 (gR_f er16) dX0_sells_111 ?_
              refine lv_iload_n hx hb dX0_sells_114 rfl (lv_at hl 2 rfl) ?_
              obtain ⟨v17, ev17, ho10⟩ := ob_s ho10
              refine ep_aald 6 (by decide) rfl hx hb hK hw ev17 dX0_sells_115 ?_
              obtain ⟨v18, ev18, ho10⟩ := ob_s ho10
              refine ep_getN (C := RX7) (T := TX7) (N := 4) (ci := 7) hx hb hts in_X7 hown hK hw rfl 3 (by decide) q515 (gI_f ev18) dX0_sells_116 ?_
              refine lv_iadd hx hb dX0_sells_119 ?_
              obtain ⟨o19, eo19, ho10⟩ := ob_s ho10
              refine ep_callv0 (va_runV (As := [.ref a1, .int (x2 + (iI 1)), .int (x3 ||| ((iI 1) <<< (x5 &&& 31))), .int (x4 + v18)]) (rest := []) ⟨hx, hb, hml, hown, hts⟩ (ihM h15 a0 a1 (x2 + (iI 1)) (x3 ||| ((iI 1) <<< (x5 &&& 31))) (x4 + v18) eo19) (cwV 4 hts (lw_V q776 q778 qs26 q85 q779) rfl rfl rfl hdX0_sells ⟨by dsimp only [headSpec]; omega, by dsimp only [headSpec]; omega⟩) (ep_preV hK hZ hw rfl (ckX0_sells eo19)) rfl rfl hl.1 rfl (lv_room (Nat.le_of_ble_eq_true rfl)) dX0_sells_120 ⟨Nat.le_of_ble_eq_true rfl, Nat.le_of_ble_eq_true rfl⟩) hw (fun H locs hw => ?_)
              obtain rfl := Option.some.inj ho10
              exact hJ10 _ _ _ hw (lv_sub hl [0, 1, 2, 3, 4, 5] rfl)
    exact hL6 FUEL _ _ ho6 _ _ _ hw (lv_sub hl [1, 2, 3, 4, 5, 0] rfl)
  · have hf := oi_t hf c2
    refine lv_iload hx hb dX0_sells_8 (lv_at hl 4 rfl) ?_
    refine lv_aload_n hx hb dX0_sells_10 rfl (lv_at hl 0 rfl) ?_
    obtain ⟨v20, ev20, hf⟩ := ob_s hf
    refine ep_get (C := RX0) (T := TX0) (N := 25) (ci := 0) hx hb hts in_X0 hown hK hw rfl 10 (by decide) q937 (gI_f ev20) dX0_sells_11 ?_
    refine lv_icmp_le (tgt := 37) hx hb dX0_sells_14 (by decide) (fun c21 => ?_) (fun c21 => ?_)
    · have hf := oi_t hf c21
      exact ep_retvW hx hb hr hlocks hw hf dX0_sells_37
    · have hf := oi_f hf c21
      refine lv_aload_n hx hb dX0_sells_17 rfl (lv_at hl 0 rfl) ?_
      refine lv_iload hx hb dX0_sells_18 (lv_at hl 4 rfl) ?_
      obtain ⟨h22, eh22, hf⟩ := ob_s hf
      refine ep_put (C := RX0) (T := TX0) (N := 25) (ci := 0) hx hb hts in_X0 tyX0 tyX0_ok nmX0 hown hK hw rfl (by decide) 10 (by decide) q937 rfl rfl rfl eh22 dX0_sells_20 (fun H locs hw => ?_)
      refine lv_aload_n hx hb dX0_sells_23 rfl (lv_at hl 0 rfl) ?_
      obtain ⟨r23, er23, hf⟩ := ob_s hf
      refine ep_get (C := RX0) (T := TX0) (N := 25) (ci := 0) hx hb hts in_X0 hown hK hw rfl 8 (by decide) q935 (gR_f er23) dX0_sells_24 ?_
      refine lv_iconst (v := iI 0) hx hb dX0_sells_27 rfl ?_
      refine lv_aload_n hx hb dX0_sells_28 rfl (lv_at hl 0 rfl) ?_
      obtain ⟨r24, er24, hf⟩ := ob_s hf
      refine ep_get (C := RX0) (T := TX0) (N := 25) (ci := 0) hx hb hts in_X0 hown hK hw rfl 9 (by decide) q936 (gR_f er24) dX0_sells_29 ?_
      refine lv_iconst (v := iI 0) hx hb dX0_sells_32 rfl ?_
      refine lv_iconst (v := iI 4) hx hb dX0_sells_33 rfl ?_
      obtain ⟨h25, eh25, hf⟩ := ob_s hf
      refine ep_copy 0 (by decide) rfl hx hb (hml.trans hl.1.symm) hts hown q126 q128 q127 q90 hK hw eh25 (Nat.le_trans (m := 6) (Nat.le_of_ble_eq_true rfl) (Nat.le_add_right _ _)) (Nat.le_trans (m := 164) (Nat.le_of_ble_eq_true rfl) (Nat.le_add_right _ _)) dX0_sells_34 (fun H locs hw => ?_)
      exact ep_retvW hx hb hr hlocks hw hf dX0_sells_37
theorem hdX0_saleOf : yX0_saleOf.cls = RX0 ∧ yX0_saleOf.cls ≠ "java/lang/invoke/MethodHandle" ∧ yX0_saleOf.cls ≠ "java/lang/invoke/VarHandle" ∧ (parseMethodDescriptor yX0_saleOf.desc).map (fun d => d.parameters.length) = some 1 := by decide +kernel
theorem ckX0_saleOf {h : Hp} {a0 : Nat} {a1 : Nat} {res : Int32 × Hp} (hf : fX0_saleOf h a0 a1 = some res) : ep_cls h a0 = some 0 := by
  unfold fX0_saleOf at hf
  exact (oi_c hf).1
abbrev wX0_saleOf (p : Program) (l : Launch) (e : Env) (s : State) (m : MethodId) (below : List Frame) (meth : Method) (c : Code) (G : EG) (h : Hp) (a0 : Nat) (a1 : Nat) (res : Int32 × Hp) (k9 n9 : Nat) (H : Heap) (locs : List Loc) (g : JFrame) : Prop := W p l e (headSpec (ws_ yX0_saleOf cX0_saleOf 2 (some .int)) ({ frames := 13, cells := 0, slots := 0, locals := 339 } : Room)).room s m ([.ref a0, .ref a1] : List Value).toArray below meth c H locs k9 n9 (MQ below (ep_Qi G ep_cl res.2 res.1) ([.ref a0, .ref a1] : List Value).toArray s 0 0 (ep_A G)) g
set_option maxHeartbeats 4000000 in
theorem metX0_saleOf (l : Launch) (G : EG) (h : Hp) (a0 : Nat) (a1 : Nat) {res : Int32 × Hp} (hf : fX0_saleOf h a0 a1 = some res) : Met l yX0_saleOf (ws_ yX0_saleOf cX0_saleOf 2 (some .int)) ({ frames := 13, cells := 0, slots := 0, locals := 339 } : Room) (ep_Pc G ep_cl h [.ref a0, .ref a1]) (ep_Qi G ep_cl res.2 res.1) 0 0 (ep_A G) := by
  refine Met.ofW (cc := cX0_saleOf) (maxL := 2) (ret := (some .int)) (by decide) rfl ?_
  intro p e s m args below meth c s₁ B hml hv
  obtain ⟨rfl, hR, hK, hZ⟩ := hv
  have hx := B.exec
  have hb := B.bytes
  have hr := B.returns
  have hlocks := B.notSynchronized
  have hts := atoms_spec (ws := (ws_ yX0_saleOf cX0_saleOf 2 (some .int))) B.pre
  have hts : ∀ w ∈ lw_all, w.before _ s = true := fun w h => hts w (List.mem_cons_of_mem _ h)
  have hown : s.vm.findClass RX0 = some m.cls := findClass_of_methodNamed B.named
  have hw : ep_W G ep_cl h s s.heap [] := ⟨hR, va_S.rf⟩
  have hl := lv_entry ([.ref a0, .ref a1]) (n := 2) (Nat.le_of_ble_eq_true rfl)
  rw [lg_entry_eq]
  generalize (lg_sl ([.ref a0, .ref a1]) ++ List.replicate (2 - (lg_sl ([.ref a0, .ref a1])).length) Slot.unset).toArray = ls at hl ⊢
  have hl : lv_has ls 2 [(0, .ref a0), (1, .ref a1)] := hl
  unfold fX0_saleOf at hf
  have hf := (oi_c hf).2
  show wX0_saleOf p l e s m below meth c G h a0 a1 res 0 0 s.heap ([]) (F0 m 0 ls [])
  refine lv_aload_n hx hb dX0_saleOf_0 rfl (lv_at hl 0 rfl) ?_
  refine lv_bipush (v := iI (-4)) hx hb dX0_saleOf_1 (by decide) ?_
  obtain ⟨h1, eh1, hf⟩ := ob_s hf
  refine ep_put (C := RX0) (T := TX0) (N := 25) (ci := 0) hx hb hts in_X0 tyX0 tyX0_ok nmX0 hown hK hw rfl (by decide) 10 (by decide) q937 rfl rfl rfl eh1 dX0_saleOf_3 (fun H locs hw => ?_)
  refine lv_aload_n hx hb dX0_saleOf_6 rfl (lv_at hl 0 rfl) ?_
  refine lv_aload_n hx hb dX0_saleOf_7 rfl (lv_at hl 1 rfl) ?_
  refine lv_iconst (v := iI 0) hx hb dX0_saleOf_8 rfl ?_
  refine lv_iconst (v := iI 0) hx hb dX0_saleOf_9 rfl ?_
  refine lv_iconst (v := iI 0) hx hb dX0_saleOf_10 rfl ?_
  obtain ⟨o2, eo2, hf⟩ := ob_s hf
  refine ep_callv0 (va_runV (As := [.ref a1, .int (iI 0), .int (iI 0), .int (iI 0)]) (rest := []) ⟨hx, hb, hml, hown, hts⟩ (metX0_sells l G 6 h1 a0 a1 (iI 0) (iI 0) (iI 0) eo2) (cwV 4 hts (lw_V q776 q778 qs26 q85 q779) rfl rfl rfl hdX0_sells ⟨Nat.le_of_ble_eq_true rfl, Nat.le_of_ble_eq_true rfl⟩) (ep_preV hK hZ hw rfl (ckX0_sells eo2)) rfl rfl hl.1 rfl (lv_room (Nat.le_of_ble_eq_true rfl)) dX0_saleOf_11 ⟨Nat.le_of_ble_eq_true rfl, Nat.le_of_ble_eq_true rfl⟩) hw (fun H locs hw => ?_)
  refine lv_aload_n hx hb dX0_saleOf_14 rfl (lv_at hl 0 rfl) ?_
  obtain ⟨v3, ev3, hf⟩ := ob_s hf
  refine ep_get (C := RX0) (T := TX0) (N := 25) (ci := 0) hx hb hts in_X0 hown hK hw rfl 10 (by decide) q937 (gI_f ev3) dX0_saleOf_15 ?_
  exact ep_retiW hx hb hr hlocks hw hf dX0_saleOf_18
theorem hdX0_sale : yX0_sale.cls = RX0 ∧ yX0_sale.cls ≠ "java/lang/invoke/MethodHandle" ∧ yX0_sale.cls ≠ "java/lang/invoke/VarHandle" ∧ (parseMethodDescriptor yX0_sale.desc).map (fun d => d.parameters.length) = some 1 := by decide +kernel
theorem ckX0_sale {h : Hp} {a0 : Nat} {x1 : Int32} {res : Int32 × Hp} (hf : fX0_sale h a0 x1 = some res) : ep_cls h a0 = some 0 := by
  unfold fX0_sale at hf
  exact (oi_c hf).1
abbrev wX0_sale (p : Program) (l : Launch) (e : Env) (s : State) (m : MethodId) (below : List Frame) (meth : Method) (c : Code) (G : EG) (h : Hp) (a0 : Nat) (x1 : Int32) (res : Int32 × Hp) (k9 n9 : Nat) (H : Heap) (locs : List Loc) (g : JFrame) : Prop := W p l e (headSpec (ws_ yX0_sale cX0_sale 2 (some .int)) ({ frames := 14, cells := 0, slots := 0, locals := 360 } : Room)).room s m ([.ref a0, .int x1] : List Value).toArray below meth c H locs k9 n9 (MQ below (ep_Qi G ep_cl res.2 res.1) ([.ref a0, .int x1] : List Value).toArray s 0 0 (ep_A G)) g
set_option maxHeartbeats 4000000 in
theorem metX0_sale (l : Launch) (G : EG) (h : Hp) (a0 : Nat) (x1 : Int32) {res : Int32 × Hp} (hf : fX0_sale h a0 x1 = some res) : Met l yX0_sale (ws_ yX0_sale cX0_sale 2 (some .int)) ({ frames := 14, cells := 0, slots := 0, locals := 360 } : Room) (ep_Pc G ep_cl h [.ref a0, .int x1]) (ep_Qi G ep_cl res.2 res.1) 0 0 (ep_A G) := by
  refine Met.ofW (cc := cX0_sale) (maxL := 2) (ret := (some .int)) (by decide) rfl ?_
  intro p e s m args below meth c s₁ B hml hv
  obtain ⟨rfl, hR, hK, hZ⟩ := hv
  have hx := B.exec
  have hb := B.bytes
  have hr := B.returns
  have hlocks := B.notSynchronized
  have hts := atoms_spec (ws := (ws_ yX0_sale cX0_sale 2 (some .int))) B.pre
  have hts : ∀ w ∈ lw_all, w.before _ s = true := fun w h => hts w (List.mem_cons_of_mem _ h)
  have hown : s.vm.findClass RX0 = some m.cls := findClass_of_methodNamed B.named
  have hw : ep_W G ep_cl h s s.heap [] := ⟨hR, va_S.rf⟩
  have hl := lv_entry ([.ref a0, .int x1]) (n := 2) (Nat.le_of_ble_eq_true rfl)
  rw [lg_entry_eq]
  generalize (lg_sl ([.ref a0, .int x1]) ++ List.replicate (2 - (lg_sl ([.ref a0, .int x1])).length) Slot.unset).toArray = ls at hl ⊢
  have hl : lv_has ls 2 [(0, .ref a0), (1, .int x1)] := hl
  unfold fX0_sale at hf
  have hf := (oi_c hf).2
  show wX0_sale p l e s m below meth c G h a0 x1 res 0 0 s.heap ([]) (F0 m 0 ls [])
  refine lv_iload_n hx hb dX0_sale_0 rfl (lv_at hl 1 rfl) ?_
  obtain ⟨ox1, ho1, hk1⟩ := orL_s hf
  have hT1 : ∀ r, ox1 = .inl r → some r = some res := fun r eo => (by have e := orL_1 hk1 eo; exact e)
  have hJ1 : ∀ o1, ox1 = .inr o1 → ∀ (H : Heap) (locs : List Loc) (ls : Array Slot), ep_W G ep_cl h s H locs → lv_has ls 2 [(0, .ref a0), (1, .int x1)] → wX0_sale p l e s m below meth c G h a0 x1 res 0 0 H locs (F0 m 27 ls []) := by
    intro o1 eo H locs ls hw hl
    have hf := orL_2 hk1 eo
    refine lv_aload_n hx hb dX0_sale_27 rfl (lv_at hl 0 rfl) ?_
    refine lv_aload_n hx hb dX0_sale_28 rfl (lv_at hl 0 rfl) ?_
    obtain ⟨r6, er6, hf⟩ := ob_s hf
    refine ep_get (C := RX0) (T := TX0) (N := 25) (ci := 0) hx hb hts in_X0 hown hK hw rfl 3 (by decide) q930 (gR_f er6) dX0_sale_29 ?_
    obtain ⟨o7, eo7, hf⟩ := ob_s hf
    refine ep_calli0 (va_runV (As := [.ref r6]) (rest := []) ⟨hx, hb, hml, hown, hts⟩ (metX0_saleOf l G h a0 r6 eo7) (cwV 1 hts (lw_V q772 q774 qs25 q85 q775) rfl rfl rfl hdX0_saleOf ⟨Nat.le_of_ble_eq_true rfl, Nat.le_of_ble_eq_true rfl⟩) (ep_preV hK hZ hw rfl (ckX0_saleOf eo7)) rfl rfl hl.1 rfl (lv_room (Nat.le_of_ble_eq_true rfl)) dX0_sale_32 ⟨Nat.le_of_ble_eq_true rfl, Nat.le_of_ble_eq_true rfl⟩) hw (fun H locs hw => ?_)
    refine lv_pop hx hb dX0_sale_35 rfl ?_
    refine lv_iload_n hx hb dX0_sale_36 rfl (lv_at hl 1 rfl) ?_
    refine lv_if_ne (tgt := 47) hx hb dX0_sale_37 (by decide) (fun c8 => ?_) (fun c8 => ?_)
    · have hf := oi_f hf c8
      refine lv_aload_n hx hb dX0_sale_47 rfl (lv_at hl 0 rfl) ?_
      obtain ⟨r9, er9, hf⟩ := ob_s hf
      refine ep_get (C := RX0) (T := TX0) (N := 25) (ci := 0) hx hb hts in_X0 hown hK hw rfl 9 (by decide) q936 (gR_f er9) dX0_sale_48 ?_
      refine lv_iload_n hx hb dX0_sale_51 rfl (lv_at hl 1 rfl) ?_
      refine lv_bipush (v := iI 10) hx hb dX0_sale_52 (by decide) ?_
      refine lv_isub hx hb dX0_sale_54 ?_
      obtain ⟨v10, ev10, hf⟩ := ob_s hf
      refine ep_iald hx hb hK hw ev10 dX0_sale_55 ?_
      exact ep_retiW hx hb hr hlocks hw hf dX0_sale_56
    · have hf := oi_t hf c8
      refine lv_aload_n hx hb dX0_sale_40 rfl (lv_at hl 0 rfl) ?_
      obtain ⟨v11, ev11, hf⟩ := ob_s hf
      refine ep_get (C := RX0) (T := TX0) (N := 25) (ci := 0) hx hb hts in_X0 hown hK hw rfl 10 (by decide) q937 (gI_f ev11) dX0_sale_41 ?_
      refine lv_goto (tgt := 56) hx hb dX0_sale_44 (by decide) ?_
      exact ep_retiW hx hb hr hlocks hw hf dX0_sale_56
  refine lv_if_eq (tgt := 27) hx hb dX0_sale_1 (by decide) (fun c2 => ?_) (fun c2 => ?_)
  · have ho1 := oi_t ho1 c2
    exact hJ1 _ (Option.some.inj ho1).symm _ _ _ hw (lv_sub hl [0, 1] rfl)
  · have ho1 := oi_f ho1 c2
    refine lv_iload_n hx hb dX0_sale_4 rfl (lv_at hl 1 rfl) ?_
    refine lv_i2l (v := x1.toInt64) hx hb dX0_sale_5 rfl ?_
    refine lv_ldc2 (v := (10 : Int64)) hx hb hown (hts _ q621) dX0_sale_6 ?_
    refine lv_bipush (v := iI 10) hx hb dX0_sale_9 (by decide) ?_
    refine lv_aload_n hx hb dX0_sale_11 rfl (lv_at hl 0 rfl) ?_
    obtain ⟨v3, ev3, ho1⟩ := ob_s ho1
    refine ep_get (C := RX0) (T := TX0) (N := 25) (ci := 0) hx hb hts in_X0 hown hK hw rfl 6 (by decide) q933 (gI_f ev3) dX0_sale_12 ?_
    refine lv_iadd hx hb dX0_sale_15 ?_
    refine lv_iconst (v := iI 1) hx hb dX0_sale_16 rfl ?_
    refine lv_isub hx hb dX0_sale_17 ?_
    refine lv_i2l (v := (((iI 10) + v3) - (iI 1)).toInt64) hx hb dX0_sale_18 rfl ?_
    obtain ⟨v4, ev4, ho1⟩ := ob_s ho1
    refine ep_calli0 (va_runS (As := [.long x1.toInt64, .long (10 : Int64), .long ((((iI 10) + v3) - (iI 1)).toInt64)]) (rest := []) ⟨hx, hb, hml, hown, hts⟩ (metX0_isIn l G h x1.toInt64 (10 : Int64) ((((iI 10) + v3) - (iI 1)).toInt64) ev4) (va_cwS 3 hts (lw_S q114 q115 q85 q116) rfl rfl rfl hsX0_isIn ⟨Nat.le_of_ble_eq_true rfl, Nat.le_of_ble_eq_true rfl⟩) (ep_preS hK hZ hw) rfl rfl hl.1 rfl (lv_room (Nat.le_of_ble_eq_true rfl)) dX0_sale_19 ⟨Nat.le_of_ble_eq_true rfl, Nat.le_of_ble_eq_true rfl⟩) hw (fun H locs hw => ?_)
    refine lv_if_ne (tgt := 27) hx hb dX0_sale_22 (by decide) (fun c5 => ?_) (fun c5 => ?_)
    · have ho1 := oi_f ho1 c5
      exact hJ1 _ (Option.some.inj ho1).symm _ _ _ hw (lv_sub hl [0, 1] rfl)
    · have ho1 := oi_t ho1 c5
      refine lv_iconst (v := iI (-1)) hx hb dX0_sale_25 rfl ?_
      exact ep_retiW hx hb hr hlocks hw (hT1 _ (Option.some.inj ho1).symm) dX0_sale_26
theorem hdX0_isAsSeen : yX0_isAsSeen.cls = RX0 ∧ yX0_isAsSeen.cls ≠ "java/lang/invoke/MethodHandle" ∧ yX0_isAsSeen.cls ≠ "java/lang/invoke/VarHandle" ∧ (parseMethodDescriptor yX0_isAsSeen.desc).map (fun d => d.parameters.length) = some 0 := by decide +kernel
theorem ckX0_isAsSeen {h : Hp} {a0 : Nat} {res : Int32} (hf : fX0_isAsSeen h a0 = some res) : ep_cls h a0 = some 0 := by
  unfold fX0_isAsSeen at hf
  exact (oi_c hf).1
abbrev wX0_isAsSeen (p : Program) (l : Launch) (e : Env) (s : State) (m : MethodId) (below : List Frame) (meth : Method) (c : Code) (G : EG) (h : Hp) (a0 : Nat) (res : Int32) (k9 n9 : Nat) (H : Heap) (locs : List Loc) (g : JFrame) : Prop := W p l e (headSpec (ws_ yX0_isAsSeen cX0_isAsSeen 3 (some .boolean)) ({ frames := 7, cells := 0, slots := 0, locals := 190 } : Room)).room s m ([.ref a0] : List Value).toArray below meth c H locs k9 n9 (MQ below (ep_Qi G ep_cl h res) ([.ref a0] : List Value).toArray s 0 0 (ep_A G)) g
set_option maxHeartbeats 4000000 in
theorem metX0_isAsSeen (l : Launch) (G : EG) (h : Hp) (a0 : Nat) {res : Int32} (hf : fX0_isAsSeen h a0 = some res) : Met l yX0_isAsSeen (ws_ yX0_isAsSeen cX0_isAsSeen 3 (some .boolean)) ({ frames := 7, cells := 0, slots := 0, locals := 190 } : Room) (ep_Pc G ep_cl h [.ref a0]) (ep_Qi G ep_cl h res) 0 0 (ep_A G) := by
  refine Met.ofW (cc := cX0_isAsSeen) (maxL := 3) (ret := (some .boolean)) (by decide) rfl ?_
  intro p e s m args below meth c s₁ B hml hv
  obtain ⟨rfl, hR, hK, hZ⟩ := hv
  have hx := B.exec
  have hb := B.bytes
  have hr := B.returns
  have hlocks := B.notSynchronized
  have hts := atoms_spec (ws := (ws_ yX0_isAsSeen cX0_isAsSeen 3 (some .boolean))) B.pre
  have hts : ∀ w ∈ lw_all, w.before _ s = true := fun w h => hts w (List.mem_cons_of_mem _ h)
  have hown : s.vm.findClass RX0 = some m.cls := findClass_of_methodNamed B.named
  have hw : ep_W G ep_cl h s s.heap [] := ⟨hR, va_S.rf⟩
  have hl := lv_entry ([.ref a0]) (n := 3) (Nat.le_of_ble_eq_true rfl)
  rw [lg_entry_eq]
  generalize (lg_sl ([.ref a0]) ++ List.replicate (3 - (lg_sl ([.ref a0])).length) Slot.unset).toArray = ls at hl ⊢
  have hl : lv_has ls 3 [(0, .ref a0)] := hl
  unfold fX0_isAsSeen at hf
  have hf := (oi_c hf).2
  show wX0_isAsSeen p l e s m below meth c G h a0 res 0 0 s.heap ([]) (F0 m 0 ls [])
  refine lv_iconst (v := iI 1) hx hb dX0_isAsSeen_0 rfl ?_
  refine lv_istore_n (lv' := [(1, .int (iI 1)), (0, .ref a0)]) hx hb dX0_isAsSeen_1 rfl hl (by decide) rfl (fun ls hl => ?_)
  refine lv_iconst (v := iI 0) hx hb dX0_isAsSeen_2 rfl ?_
  refine lv_istore_n (lv' := [(2, .int (iI 0)), (1, .int (iI 1)), (0, .ref a0)]) hx hb dX0_isAsSeen_3 rfl hl (by decide) rfl (fun ls hl => ?_)
  obtain ⟨o1, ho1, hf⟩ := ob_s hf
  have hJ1 : ∀ (H : Heap) (locs : List Loc) (ls : Array Slot), ep_W G ep_cl h s H locs → lv_has ls 3 [(1, .int o1)] → wX0_isAsSeen p l e s m below meth c G h a0 res 0 0 H locs (F0 m 66 ls []) := by
    intro H locs ls hw hl
    refine lv_iload_n hx hb dX0_isAsSeen_66 rfl (lv_at hl 0 rfl) ?_
    obtain ⟨z, ez, hf⟩ := ob_s hf
    obtain ⟨hz, hn⟩ := ckZ_s ez
    rw [hz] at hf
    exact ep_retzR hx hb hr hn hlocks hw hf dX0_isAsSeen_67
  have hL1 : ∀ (fu : Nat) (x1 : Int32) (x2 : Int32), fX0_isAsSeen_L4 h a0 fu x1 x2 = some o1 → ∀ (H : Heap) (locs : List Loc) (ls : Array Slot), ep_W G ep_cl h s H locs → lv_has ls 3 [(0, .ref a0), (1, .int x1), (2, .int x2)] → wX0_isAsSeen p l e s m below meth c G h a0 res 0 0 H locs (F0 m 4 ls []) := by
    intro fu
    induction fu with
    | zero => intro x1 x2 ho1; cases ho1
    | succ fu ih1 =>
      intro x1 x2 ho1 H locs ls hw hl
      rw [fX0_isAsSeen_L4] at ho1
      refine lv_iload_n hx hb dX0_isAsSeen_4 rfl (lv_at hl 2 rfl) ?_
      refine lv_aload_n hx hb dX0_isAsSeen_5 rfl (lv_at hl 0 rfl) ?_
      obtain ⟨v2, ev2, ho1⟩ := ob_s ho1
      refine ep_get (C := RX0) (T := TX0) (N := 25) (ci := 0) hx hb hts in_X0 hown hK hw rfl 18 (by decide) q947 (gI_f ev2) dX0_isAsSeen_6 ?_
      refine lv_icmp_ge (tgt := 66) hx hb dX0_isAsSeen_9 (by decide) (fun c3 => ?_) (fun c3 => ?_)
      · have ho1 := oi_t ho1 c3
        obtain rfl := Option.some.inj ho1
        exact hJ1 _ _ _ hw (lv_sub hl [1] rfl)
      · have ho1 := oi_f ho1 c3
        refine lv_iload_n hx hb dX0_isAsSeen_12 rfl (lv_at hl 1 rfl) ?_
        refine lv_if_eq (tgt := 66) hx hb dX0_isAsSeen_13 (by decide) (fun c4 => ?_) (fun c4 => ?_)
        · have ho1 := oi_t ho1 c4
          obtain rfl := Option.some.inj ho1
          exact hJ1 _ _ _ hw (lv_sub hl [1] rfl)
        · have ho1 := oi_f ho1 c4
          refine lv_aload_n hx hb dX0_isAsSeen_16 rfl (lv_at hl 0 rfl) ?_
          refine lv_aload_n hx hb dX0_isAsSeen_17 rfl (lv_at hl 0 rfl) ?_
          obtain ⟨r5, er5, ho1⟩ := ob_s ho1
          refine ep_get (C := RX0) (T := TX0) (N := 25) (ci := 0) hx hb hts in_X0 hown hK hw rfl 11 (by decide) q938 (gR_f er5) dX0_isAsSeen_18 ?_
          refine lv_aload_n hx hb dX0_isAsSeen_21 rfl (lv_at hl 0 rfl) ?_
          obtain ⟨r6, er6, ho1⟩ := ob_s ho1
          refine ep_get (C := RX0) (T := TX0) (N := 25) (ci := 0) hx hb hts in_X0 hown hK hw rfl 17 (by decide) q945 (gR_f er6) dX0_isAsSeen_22 ?_
          refine lv_iload_n hx hb dX0_isAsSeen_25 rfl (lv_at hl 2 rfl) ?_
          obtain ⟨v7, ev7, ho1⟩ := ob_s ho1
          refine ep_aald 5 (by decide) rfl hx hb hK hw ev7 dX0_isAsSeen_26 ?_
          refine lv_iconst (v := iI 0) hx hb dX0_isAsSeen_27 rfl ?_
          obtain ⟨v8, ev8, ho1⟩ := ob_s ho1
          refine ep_iald hx hb hK hw ev8 dX0_isAsSeen_28 ?_
          refine lv_aload_n hx hb dX0_isAsSeen_29 rfl (lv_at hl 0 rfl) ?_
          obtain ⟨r9, er9, ho1⟩ := ob_s ho1
          refine ep_get (C := RX0) (T := TX0) (N := 25) (ci := 0) hx hb hts in_X0 hown hK hw rfl 17 (by decide) q945 (gR_f er9) dX0_isAsSeen_30 ?_
          refine lv_iload_n hx hb dX0_isAsSeen_33 rfl (lv_at hl 2 rfl) ?_
          obtain ⟨v10, ev10, ho1⟩ := ob_s ho1
          refine ep_aald 5 (by decide) rfl hx hb hK hw ev10 dX0_isAsSeen_34 ?_
          refine lv_iconst (v := iI 1) hx hb dX0_isAsSeen_35 rfl ?_
          obtain ⟨v11, ev11, ho1⟩ := ob_s ho1
          refine ep_iald hx hb hK hw ev11 dX0_isAsSeen_36 ?_
          obtain ⟨v12, ev12, ho1⟩ := ob_s ho1
          refine ep_calli0 (va_runV (As := [.ref r5, .int v8, .int v11]) (rest := []) ⟨hx, hb, hml, hown, hts⟩ (metX0_heardIn l G h a0 r5 v8 v11 ev12) (cwV 3 hts (lw_V q740 q742 qs24 q85 q743) rfl rfl rfl hdX0_heardIn ⟨Nat.le_of_ble_eq_true rfl, Nat.le_of_ble_eq_true rfl⟩) (ep_preV hK hZ hw rfl (ckX0_heardIn ev12)) rfl rfl hl.1 rfl (lv_room (Nat.le_of_ble_eq_true rfl)) dX0_isAsSeen_37 ⟨Nat.le_of_ble_eq_true rfl, Nat.le_of_ble_eq_true rfl⟩) hw (fun H locs hw => ?_)
          obtain ⟨v13, ev13, ho1⟩ := ob_s ho1
          refine ep_calli0 (va_runS (As := [.int v12]) (rest := []) ⟨hx, hb, hml, hown, hts⟩ (metJ9_bitCount l G h v12 ev13) (va_cwS 1 hts (lw_S q634 q530 q103 q531) rfl rfl rfl hsJ9_bitCount ⟨Nat.le_of_ble_eq_true rfl, Nat.le_of_ble_eq_true rfl⟩) (ep_preS hK hZ hw) rfl rfl hl.1 rfl (lv_room (Nat.le_of_ble_eq_true rfl)) dX0_isAsSeen_40 ⟨Nat.le_of_ble_eq_true rfl, Nat.le_of_ble_eq_true rfl⟩) hw (fun H locs hw => ?_)
          refine lv_aload_n hx hb dX0_isAsSeen_43 rfl (lv_at hl 0 rfl) ?_
          obtain ⟨r14, er14, ho1⟩ := ob_s ho1
          refine ep_get (C := RX0) (T := TX0) (N := 25) (ci := 0) hx hb hts in_X0 hown hK hw rfl 17 (by decide) q945 (gR_f er14) dX0_isAsSeen_44 ?_
          refine lv_iload_n hx hb dX0_isAsSeen_47 rfl (lv_at hl 2 rfl) ?_
          obtain ⟨v15, ev15, ho1⟩ := ob_s ho1
          refine ep_aald 5 (by decide) rfl hx hb hK hw ev15 dX0_isAsSeen_48 ?_
          refine lv_iconst (v := iI 2) hx hb dX0_isAsSeen_49 rfl ?_
          obtain ⟨v16, ev16, ho1⟩ := ob_s ho1
          refine ep_iald hx hb hK hw ev16 dX0_isAsSeen_50 ?_
          have hJ17 : wX0_isAsSeen p l e s m below meth c G h a0 res 0 0 H locs (F0 m 59 ls [.int (if v13 = v16 then iI 1 else iI 0)]) := by
            refine lv_istore_n (lv' := [(1, .int (if v13 = v16 then iI 1 else iI 0)), (0, .ref a0), (2, .int x2)]) hx hb dX0_isAsSeen_59 rfl hl (by decide) rfl (fun ls hl => ?_)
            refine lv_iinc (v := (x2 + iI 1)) (lv' := [(2, .int (x2 + iI 1)), (1, .int (if v13 = v16 then iI 1 else iI 0)), (0, .ref a0)]) hx hb dX0_isAsSeen_60 hl (k := 2) rfl rfl (by decide) rfl (fun ls hl => ?_)
            refine lv_goto (tgt := 4) hx hb dX0_isAsSeen_63 (by decide) ?_
            exact ih1 _ _ ho1 _ _ _ hw (lv_sub hl [2, 1, 0] rfl)
          refine lv_icmp_ne (tgt := 58) hx hb dX0_isAsSeen_51 (by decide) (fun c18 => ?_) (fun c18 => ?_)
          · refine lv_iconst (v := iI 0) hx hb dX0_isAsSeen_58 rfl ?_
            rw [if_neg c18] at hJ17
            exact hJ17
          · refine lv_iconst (v := iI 1) hx hb dX0_isAsSeen_54 rfl ?_
            refine lv_goto (tgt := 59) hx hb dX0_isAsSeen_55 (by decide) ?_
            rw [if_pos c18] at hJ17
            exact hJ17
  exact hL1 FUEL _ _ ho1 _ _ _ hw (lv_sub hl [2, 1, 0] rfl)
theorem hdX0_weighs : yX0_weighs.cls = RX0 ∧ yX0_weighs.cls ≠ "java/lang/invoke/MethodHandle" ∧ yX0_weighs.cls ≠ "java/lang/invoke/VarHandle" ∧ (parseMethodDescriptor yX0_weighs.desc).map (fun d => d.parameters.length) = some 3 := by decide +kernel
theorem ckX0_weighs {h : Hp} {a0 : Nat} {x1 : Int32} {x2 : Int32} {x3 : Int32} {res : Hp} (hf : fX0_weighs h a0 x1 x2 x3 = some res) : ep_cls h a0 = some 0 := by
  unfold fX0_weighs at hf
  exact (oi_c hf).1
abbrev wX0_weighs (p : Program) (l : Launch) (e : Env) (s : State) (m : MethodId) (below : List Frame) (meth : Method) (c : Code) (G : EG) (h : Hp) (a0 : Nat) (x1 : Int32) (x2 : Int32) (x3 : Int32) (res : Hp) (k9 n9 : Nat) (H : Heap) (locs : List Loc) (g : JFrame) : Prop := W p l e (headSpec (ws_ yX0_weighs cX0_weighs 5 none) ({ frames := 14, cells := 0, slots := 0, locals := 360 } : Room)).room s m ([.ref a0, .int x1, .int x2, .int x3] : List Value).toArray below meth c H locs k9 n9 (MQ below (ep_Qv G ep_cl res) ([.ref a0, .int x1, .int x2, .int x3] : List Value).toArray s 0 0 (ep_A G)) g
set_option maxHeartbeats 4000000 in
theorem metX0_weighs (l : Launch) (G : EG) (h : Hp) (a0 : Nat) (x1 : Int32) (x2 : Int32) (x3 : Int32) {res : Hp} (hf : fX0_weighs h a0 x1 x2 x3 = some res) : Met l yX0_weighs (ws_ yX0_weighs cX0_weighs 5 none) ({ frames := 14, cells := 0, slots := 0, locals := 360 } : Room) (ep_Pc G ep_cl h [.ref a0, .int x1, .int x2, .int x3]) (ep_Qv G ep_cl res) 0 0 (ep_A G) := by
  refine Met.ofW (cc := cX0_weighs) (maxL := 5) (ret := none) (by decide) rfl ?_
  intro p e s m args below meth c s₁ B hml hv
  obtain ⟨rfl, hR, hK, hZ⟩ := hv
  have hx := B.exec
  have hb := B.bytes
  have hr := B.returns
  have hlocks := B.notSynchronized
  have hts := atoms_spec (ws := (ws_ yX0_weighs cX0_weighs 5 none)) B.pre
  have hts : ∀ w ∈ lw_all, w.before _ s = true := fun w h => hts w (List.mem_cons_of_mem _ h)
  have hown : s.vm.findClass RX0 = some m.cls := findClass_of_methodNamed B.named
  have hw : ep_W G ep_cl h s s.heap [] := ⟨hR, va_S.rf⟩
  have hl := lv_entry ([.ref a0, .int x1, .int x2, .int x3]) (n := 5) (Nat.le_of_ble_eq_true rfl)
  rw [lg_entry_eq]
  generalize (lg_sl ([.ref a0, .int x1, .int x2, .int x3]) ++ List.replicate (5 - (lg_sl ([.ref a0, .int x1, .int x2, .int x3])).length) Slot.unset).toArray = ls at hl ⊢
  have hl : lv_has ls 5 [(0, .ref a0), (1, .int x1), (2, .int x2), (3, .int x3)] := hl
  unfold fX0_weighs at hf
  have hf := (oi_c hf).2
  show wX0_weighs p l e s m below meth c G h a0 x1 x2 x3 res 0 0 s.heap ([]) (F0 m 0 ls [])
  refine lv_iload_n hx hb dX0_weighs_0 rfl (lv_at hl 1 rfl) ?_
  refine lv_if_lt (tgt := 67) hx hb dX0_weighs_1 (by decide) (fun c1 => ?_) (fun c1 => ?_)
  · have hf := oi_t hf c1
    refine lv_aload_n hx hb dX0_weighs_67 rfl (lv_at hl 0 rfl) ?_
    obtain ⟨v2, ev2, hf⟩ := ob_s hf
    refine ep_calli0 (va_runV (As := []) (rest := []) ⟨hx, hb, hml, hown, hts⟩ (metX0_isAsSeen l G h a0 ev2) (cwV 0 hts (lw_V q797 q799 qs30 q85 q800) rfl rfl rfl hdX0_isAsSeen ⟨Nat.le_of_ble_eq_true rfl, Nat.le_of_ble_eq_true rfl⟩) (ep_preV hK hZ hw rfl (ckX0_isAsSeen ev2)) rfl rfl hl.1 rfl (lv_room (Nat.le_of_ble_eq_true rfl)) dX0_weighs_68 ⟨Nat.le_of_ble_eq_true rfl, Nat.le_of_ble_eq_true rfl⟩) hw (fun H locs hw => ?_)
    refine lv_if_eq (tgt := 165) hx hb dX0_weighs_71 (by decide) (fun c3 => ?_) (fun c3 => ?_)
    · have hf := oi_t hf c3
      exact ep_retvW hx hb hr hlocks hw hf dX0_weighs_165
    · have hf := oi_f hf c3
      refine lv_aload_n hx hb dX0_weighs_74 rfl (lv_at hl 0 rfl) ?_
      refine lv_dup hx hb dX0_weighs_75 rfl ?_
      obtain ⟨v4, ev4, hf⟩ := ob_s hf
      refine ep_get (C := RX0) (T := TX0) (N := 25) (ci := 0) hx hb hts in_X0 hown hK hw rfl 14 (by decide) q941 (gI_f ev4) dX0_weighs_76 ?_
      refine lv_iconst (v := iI 1) hx hb dX0_weighs_79 rfl ?_
      refine lv_iadd hx hb dX0_weighs_80 ?_
      obtain ⟨h5, eh5, hf⟩ := ob_s hf
      refine ep_put (C := RX0) (T := TX0) (N := 25) (ci := 0) hx hb hts in_X0 tyX0 tyX0_ok nmX0 hown hK hw rfl (by decide) 14 (by decide) q941 rfl rfl rfl eh5 dX0_weighs_81 (fun H locs hw => ?_)
      refine lv_iconst (v := iI 0) hx hb dX0_weighs_84 rfl ?_
      refine lv_istore (lv' := [(4, .int (iI 0)), (0, .ref a0), (1, .int x1), (2, .int x2), (3, .int x3)]) hx hb dX0_weighs_85 hl (by decide) rfl (fun ls hl => ?_)
      obtain ⟨o6, ho6, hf⟩ := ob_s hf
      have hJ6 : ∀ (H : Heap) (locs : List Loc) (ls : Array Slot), ep_W G ep_cl o6 s H locs → lv_has ls 5 [(0, .ref a0), (2, .int x2), (3, .int x3)] → wX0_weighs p l e s m below meth c G h a0 x1 x2 x3 res 0 0 H locs (F0 m 143 ls []) := by
        intro H locs ls hw hl
        refine lv_aload_n hx hb dX0_weighs_143 rfl (lv_at hl 0 rfl) ?_
        obtain ⟨r20, er20, hf⟩ := ob_s hf
        refine ep_get (C := RX0) (T := TX0) (N := 25) (ci := 0) hx hb hts in_X0 hown hK hw rfl 16 (by decide) q943 (gR_f er20) dX0_weighs_144 ?_
        refine lv_aload_n hx hb dX0_weighs_147 rfl (lv_at hl 0 rfl) ?_
        refine lv_aload_n hx hb dX0_weighs_148 rfl (lv_at hl 0 rfl) ?_
        obtain ⟨r21, er21, hf⟩ := ob_s hf
        refine ep_get (C := RX0) (T := TX0) (N := 25) (ci := 0) hx hb hts in_X0 hown hK hw rfl 11 (by decide) q938 (gR_f er21) dX0_weighs_149 ?_
        refine lv_iload_n hx hb dX0_weighs_152 rfl (lv_at hl 1 rfl) ?_
        refine lv_iload_n hx hb dX0_weighs_153 rfl (lv_at hl 2 rfl) ?_
        obtain ⟨v22, ev22, hf⟩ := ob_s hf
        refine ep_calli0 (va_runV (As := [.ref r21, .int x2, .int x3]) (rest := [.ref r20]) ⟨hx, hb, hml, hown, hts⟩ (metX0_heardIn l G o6 a0 r21 x2 x3 ev22) (cwV 3 hts (lw_V q740 q742 qs24 q85 q743) rfl rfl rfl hdX0_heardIn ⟨Nat.le_of_ble_eq_true rfl, Nat.le_of_ble_eq_true rfl⟩) (ep_preV hK hZ hw rfl (ckX0_heardIn ev22)) rfl rfl hl.1 rfl (lv_room (Nat.le_of_ble_eq_true rfl)) dX0_weighs_154 ⟨Nat.le_of_ble_eq_true rfl, Nat.le_of_ble_eq_true rfl⟩) hw (fun H locs hw => ?_)
        obtain ⟨v23, ev23, hf⟩ := ob_s hf
        refine ep_calli0 (va_runS (As := [.int v22]) (rest := [.ref r20]) ⟨hx, hb, hml, hown, hts⟩ (metJ9_bitCount l G o6 v22 ev23) (va_cwS 1 hts (lw_S q634 q530 q103 q531) rfl rfl rfl hsJ9_bitCount ⟨Nat.le_of_ble_eq_true rfl, Nat.le_of_ble_eq_true rfl⟩) (ep_preS hK hZ hw) rfl rfl hl.1 rfl (lv_room (Nat.le_of_ble_eq_true rfl)) dX0_weighs_157 ⟨Nat.le_of_ble_eq_true rfl, Nat.le_of_ble_eq_true rfl⟩) hw (fun H locs hw => ?_)
        refine lv_dup2_11 hx hb dX0_weighs_160 rfl rfl ?_
        obtain ⟨v24, ev24, hf⟩ := ob_s hf
        refine ep_iald hx hb hK hw ev24 dX0_weighs_161 ?_
        refine lv_iconst (v := iI 1) hx hb dX0_weighs_162 rfl ?_
        refine lv_iadd hx hb dX0_weighs_163 ?_
        obtain ⟨h25, eh25, hf⟩ := ob_s hf
        refine ep_iast hx hb hK hw eh25 dX0_weighs_164 (fun H locs hw => ?_)
        exact ep_retvW hx hb hr hlocks hw hf dX0_weighs_165
      have hL6 : ∀ (fu : Nat) (h : Hp) (x4 : Int32), fX0_weighs_L87 a0 x2 x3 fu h x4 = some o6 → ∀ (H : Heap) (locs : List Loc) (ls : Array Slot), ep_W G ep_cl h s H locs → lv_has ls 5 [(0, .ref a0), (2, .int x2), (3, .int x3), (4, .int x4)] → wX0_weighs p l e s m below meth c G h a0 x1 x2 x3 res 0 0 H locs (F0 m 87 ls []) := by
        intro fu
        induction fu with
        | zero => intro h x4 ho6; cases ho6
        | succ fu ih6 =>
          intro h x4 ho6 H locs ls hw hl
          rw [fX0_weighs_L87] at ho6
          refine lv_iload hx hb dX0_weighs_87 (lv_at hl 3 rfl) ?_
          refine lv_aload_n hx hb dX0_weighs_89 rfl (lv_at hl 0 rfl) ?_
          obtain ⟨r7, er7, ho6⟩ := ob_s ho6
          refine ep_get (C := RX0) (T := TX0) (N := 25) (ci := 0) hx hb hts in_X0 hown hK hw rfl 11 (by decide) q938 (gR_f er7) dX0_weighs_90 ?_
          obtain ⟨v8, ev8, ho6⟩ := ob_s ho6
          refine ep_getN (C := RX1) (T := TX1) (N := 11) (ci := 1) hx hb hts in_X1 hown hK hw rfl 7 (by decide) q167 (gI_f ev8) dX0_weighs_93 ?_
          refine lv_icmp_ge (tgt := 143) hx hb dX0_weighs_96 (by decide) (fun c9 => ?_) (fun c9 => ?_)
          · have ho6 := oi_t ho6 c9
            obtain rfl := Option.some.inj ho6
            exact hJ6 _ _ _ hw (lv_sub hl [0, 1, 2] rfl)
          · have ho6 := oi_f ho6 c9
            refine lv_aload_n hx hb dX0_weighs_99 rfl (lv_at hl 0 rfl) ?_
            obtain ⟨r10, er10, ho6⟩ := ob_s ho6
            refine ep_get (C := RX0) (T := TX0) (N := 25) (ci := 0) hx hb hts in_X0 hown hK hw rfl 15 (by decide) q942 (gR_f er10) dX0_weighs_100 ?_
            refine lv_iload hx hb dX0_weighs_103 (lv_at hl 3 rfl) ?_
            refine lv_dup2_11 hx hb dX0_weighs_105 rfl rfl ?_
            obtain ⟨v11, ev11, ho6⟩ := ob_s ho6
            refine ep_iald hx hb hK hw ev11 dX0_weighs_106 ?_
            refine lv_aload_n hx hb dX0_weighs_107 rfl (lv_at hl 0 rfl) ?_
            obtain ⟨r12, er12, ho6⟩ := ob_s ho6
            refine ep_get (C := RX0) (T := TX0) (N := 25) (ci := 0) hx hb hts in_X0 hown hK hw rfl 11 (by decide) q938 (gR_f er12) dX0_weighs_108 ?_
            refine lv_iload hx hb dX0_weighs_111 (lv_at hl 3 rfl) ?_
            obtain ⟨v13, ev13, ho6⟩ := ob_s ho6
            refine ep_calli0 (va_runV (As := [.int x4]) (rest := [.int v11, .int x4, .ref r10]) ⟨hx, hb, hml, hown, hts⟩ (metX1_isSold l G h r12 x4 ev13) (cwV 1 hts (lw_V q655 q554 q555 q86 q556) rfl rfl rfl hdX1_isSold ⟨Nat.le_of_ble_eq_true rfl, Nat.le_of_ble_eq_true rfl⟩) (ep_preV hK hZ hw rfl (ckX1_isSold ev13)) rfl rfl hl.1 rfl (lv_room (Nat.le_of_ble_eq_true rfl)) dX0_weighs_113 ⟨Nat.le_of_ble_eq_true rfl, Nat.le_of_ble_eq_true rfl⟩) hw (fun H locs hw => ?_)
            obtain ⟨o14, ho14, ho6⟩ := ob_s ho6
            have hJ14 : ∀ (H : Heap) (locs : List Loc) (ls : Array Slot), ep_W G ep_cl h s H locs → lv_has ls 5 [(0, .ref a0), (2, .int x2), (3, .int x3), (4, .int x4)] → wX0_weighs p l e s m below meth c G h a0 x1 x2 x3 res 0 0 H locs (F0 m 135 ls [.int o14, .int v11, .int x4, .ref r10]) := by
              intro H locs ls hw hl
              refine lv_ior hx hb dX0_weighs_135 ?_
              obtain ⟨h19, eh19, ho6⟩ := ob_s ho6
              refine ep_iast hx hb hK hw eh19 dX0_weighs_136 (fun H locs hw => ?_)
              refine lv_iinc (v := (x4 + iI 1)) (lv' := [(4, .int (x4 + iI 1)), (0, .ref a0), (2, .int x2), (3, .int x3)]) hx hb dX0_weighs_137 hl (k := 3) rfl rfl (by decide) rfl (fun ls hl => ?_)
              refine lv_goto (tgt := 87) hx hb dX0_weighs_140 (by decide) ?_
              exact ih6 _ _ ho6 _ _ _ hw (lv_sub hl [1, 2, 3, 0] rfl)
            refine lv_if_eq (tgt := 123) hx hb dX0_weighs_116 (by decide) (fun c15 => ?_) (fun c15 => ?_)
            · have ho14 := oi_t ho14 c15
              refine lv_iconst (v := iI 1) hx hb dX0_weighs_123 rfl ?_
              refine lv_aload_n hx hb dX0_weighs_124 rfl (lv_at hl 0 rfl) ?_
              obtain ⟨r16, er16, ho14⟩ := ob_s ho14
              refine ep_get (C := RX0) (T := TX0) (N := 25) (ci := 0) hx hb hts in_X0 hown hK hw rfl 11 (by decide) q938 (gR_f er16) dX0_weighs_125 ?_
              obtain ⟨r17, er17, ho14⟩ := ob_s ho14
              refine ep_getN (C := RX1) (T := TX1) (N := 11) (ci := 1) hx hb hts in_X1 hown hK hw rfl 6 (by decide) q165 (gR_f er17) dX0_weighs_128 ?_
              refine lv_iload hx hb dX0_weighs_131 (lv_at hl 3 rfl) ?_
              obtain ⟨v18, ev18, ho14⟩ := ob_s ho14
              refine ep_iald hx hb hK hw ev18 dX0_weighs_133 ?_
              refine lv_ishl hx hb dX0_weighs_134 ?_
              obtain rfl := Option.some.inj ho14
              exact hJ14 _ _ _ hw (lv_sub hl [0, 1, 2, 3] rfl)
            · have ho14 := oi_f ho14 c15
              refine lv_iconst (v := iI 0) hx hb dX0_weighs_119 rfl ?_
              refine lv_goto (tgt := 135) hx hb dX0_weighs_120 (by decide) ?_
              obtain rfl := Option.some.inj ho14
              exact hJ14 _ _ _ hw (lv_sub hl [0, 1, 2, 3] rfl)
      exact hL6 FUEL _ _ ho6 _ _ _ hw (lv_sub hl [1, 3, 4, 0] rfl)
  · have hf := oi_f hf c1
    refine lv_aload_n hx hb dX0_weighs_4 rfl (lv_at hl 0 rfl) ?_
    obtain ⟨r26, er26, hf⟩ := ob_s hf
    refine ep_get (C := RX0) (T := TX0) (N := 25) (ci := 0) hx hb hts in_X0 hown hK hw rfl 7 (by decide) q934 (gR_f er26) dX0_weighs_5 ?_
    refine lv_aload_n hx hb dX0_weighs_8 rfl (lv_at hl 0 rfl) ?_
    obtain ⟨r27, er27, hf⟩ := ob_s hf
    refine ep_get (C := RX0) (T := TX0) (N := 25) (ci := 0) hx hb hts in_X0 hown hK hw rfl 11 (by decide) q938 (gR_f er27) dX0_weighs_9 ?_
    obtain ⟨o28, eo28, hf⟩ := ob_s hf
    refine ep_callv0 (va_runV (As := [.ref r27]) (rest := []) ⟨hx, hb, hml, hown, hts⟩ (metX1_takes l G h r26 r27 eo28) (cwV 1 hts (lw_V q535 q536 q537 q86 q538) rfl rfl rfl hdX1_takes ⟨Nat.le_of_ble_eq_true rfl, Nat.le_of_ble_eq_true rfl⟩) (ep_preV hK hZ hw rfl (ckX1_takes eo28)) rfl rfl hl.1 rfl (lv_room (Nat.le_of_ble_eq_true rfl)) dX0_weighs_12 ⟨Nat.le_of_ble_eq_true rfl, Nat.le_of_ble_eq_true rfl⟩) hw (fun H locs hw => ?_)
    refine lv_aload_n hx hb dX0_weighs_15 rfl (lv_at hl 0 rfl) ?_
    refine lv_aload_n hx hb dX0_weighs_16 rfl (lv_at hl 0 rfl) ?_
    obtain ⟨r29, er29, hf⟩ := ob_s hf
    refine ep_get (C := RX0) (T := TX0) (N := 25) (ci := 0) hx hb hts in_X0 hown hK hw rfl 7 (by decide) q934 (gR_f er29) dX0_weighs_17 ?_
    refine lv_iload_n hx hb dX0_weighs_20 rfl (lv_at hl 1 rfl) ?_
    obtain ⟨o30, eo30, hf⟩ := ob_s hf
    refine ep_callv0 (va_runV (As := [.ref r29, .int x1]) (rest := []) ⟨hx, hb, hml, hown, hts⟩ (metX0_goes l G o28 a0 r29 x1 eo30) (cwV 2 hts (lw_V q671 q673 qs19 q85 q674) rfl rfl rfl hdX0_goes ⟨Nat.le_of_ble_eq_true rfl, Nat.le_of_ble_eq_true rfl⟩) (ep_preV hK hZ hw rfl (ckX0_goes eo30)) rfl rfl hl.1 rfl (lv_room (Nat.le_of_ble_eq_true rfl)) dX0_weighs_21 ⟨Nat.le_of_ble_eq_true rfl, Nat.le_of_ble_eq_true rfl⟩) hw (fun H locs hw => ?_)
    refine lv_aload_n hx hb dX0_weighs_24 rfl (lv_at hl 0 rfl) ?_
    refine lv_aload_n hx hb dX0_weighs_25 rfl (lv_at hl 0 rfl) ?_
    obtain ⟨r31, er31, hf⟩ := ob_s hf
    refine ep_get (C := RX0) (T := TX0) (N := 25) (ci := 0) hx hb hts in_X0 hown hK hw rfl 7 (by decide) q934 (gR_f er31) dX0_weighs_26 ?_
    obtain ⟨o32, eo32, hf⟩ := ob_s hf
    refine ep_calli0 (va_runV (As := [.ref r31]) (rest := []) ⟨hx, hb, hml, hown, hts⟩ (metX0_saleOf l G o30 a0 r31 eo32) (cwV 1 hts (lw_V q772 q774 qs25 q85 q775) rfl rfl rfl hdX0_saleOf ⟨Nat.le_of_ble_eq_true rfl, Nat.le_of_ble_eq_true rfl⟩) (ep_preV hK hZ hw rfl (ckX0_saleOf eo32)) rfl rfl hl.1 rfl (lv_room (Nat.le_of_ble_eq_true rfl)) dX0_weighs_29 ⟨Nat.le_of_ble_eq_true rfl, Nat.le_of_ble_eq_true rfl⟩) hw (fun H locs hw => ?_)
    refine lv_aload_n hx hb dX0_weighs_32 rfl (lv_at hl 0 rfl) ?_
    obtain ⟨v33, ev33, hf⟩ := ob_s hf
    refine ep_get (C := RX0) (T := TX0) (N := 25) (ci := 0) hx hb hts in_X0 hown hK hw rfl 13 (by decide) q940 (gI_f ev33) dX0_weighs_33 ?_
    refine lv_icmp_le (tgt := 165) hx hb dX0_weighs_36 (by decide) (fun c34 => ?_) (fun c34 => ?_)
    · have hf := oi_t hf c34
      exact ep_retvW hx hb hr hlocks hw hf dX0_weighs_165
    · have hf := oi_f hf c34
      refine lv_aload_n hx hb dX0_weighs_39 rfl (lv_at hl 0 rfl) ?_
      refine lv_aload_n hx hb dX0_weighs_40 rfl (lv_at hl 0 rfl) ?_
      obtain ⟨v35, ev35, hf⟩ := ob_s hf
      refine ep_get (C := RX0) (T := TX0) (N := 25) (ci := 0) hx hb hts in_X0 hown hK hw rfl 10 (by decide) q937 (gI_f ev35) dX0_weighs_41 ?_
      obtain ⟨h36, eh36, hf⟩ := ob_s hf
      refine ep_put (C := RX0) (T := TX0) (N := 25) (ci := 0) hx hb hts in_X0 tyX0 tyX0_ok nmX0 hown hK hw rfl (by decide) 13 (by decide) q940 rfl rfl rfl eh36 dX0_weighs_44 (fun H locs hw => ?_)
      refine lv_aload_n hx hb dX0_weighs_47 rfl (lv_at hl 0 rfl) ?_
      obtain ⟨r37, er37, hf⟩ := ob_s hf
      refine ep_get (C := RX0) (T := TX0) (N := 25) (ci := 0) hx hb hts in_X0 hown hK hw rfl 11 (by decide) q938 (gR_f er37) dX0_weighs_48 ?_
      obtain ⟨r38, er38, hf⟩ := ob_s hf
      refine ep_getN (C := RX1) (T := TX1) (N := 11) (ci := 1) hx hb hts in_X1 hown hK hw rfl 6 (by decide) q165 (gR_f er38) dX0_weighs_51 ?_
      refine lv_iconst (v := iI 0) hx hb dX0_weighs_54 rfl ?_
      refine lv_aload_n hx hb dX0_weighs_55 rfl (lv_at hl 0 rfl) ?_
      obtain ⟨r39, er39, hf⟩ := ob_s hf
      refine ep_get (C := RX0) (T := TX0) (N := 25) (ci := 0) hx hb hts in_X0 hown hK hw rfl 12 (by decide) q939 (gR_f er39) dX0_weighs_56 ?_
      refine lv_iconst (v := iI 0) hx hb dX0_weighs_59 rfl ?_
      refine lv_iconst (v := iI 5) hx hb dX0_weighs_60 rfl ?_
      obtain ⟨h40, eh40, hf⟩ := ob_s hf
      refine ep_copy 0 (by decide) rfl hx hb (hml.trans hl.1.symm) hts hown q126 q128 q127 q90 hK hw eh40 (Nat.le_of_ble_eq_true rfl) (Nat.le_of_ble_eq_true rfl) dX0_weighs_61 (fun H locs hw => ?_)
      refine lv_goto (tgt := 165) hx hb dX0_weighs_64 (by decide) ?_
      exact ep_retvW hx hb hr hlocks hw hf dX0_weighs_165
