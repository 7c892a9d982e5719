/-! walks (printed by gen.py) -/
set_option maxRecDepth 100000
theorem hsX0_copies : yX0_copies.cls ≠ "java/lang/invoke/MethodHandle" ∧ yX0_copies.cls ≠ "java/lang/invoke/VarHandle" ∧ (parseMethodDescriptor yX0_copies.desc).map (fun d => d.parameters.length) = some 2 := by decide +kernel
abbrev wX0_copies (p : Program) (l : Launch) (e : Env) (s : State) (m : MethodId) (below : List Frame) (meth : Method) (c : Code) (G : EG) (h : Hp) (a0 : Nat) (a1 : Nat) (res : Hp) (k9 n9 : Nat) (H : Heap) (locs : List Loc) (g : JFrame) : Prop := W p l e (headSpec (ws_ yX0_copies cX0_copies 3 none) ({ frames := 1, cells := 0, slots := 0, locals := 60 } : Room)).room s m ([.ref a0, .ref a1] : List Value).toArray below meth c H locs k9 n9 (MQ below (ep_Qv G ep_cl res) ([.ref a0, .ref a1] : List Value).toArray s 0 0 (ep_A G)) g
set_option maxHeartbeats 4000000 in
theorem metX0_copies (l : Launch) (G : EG) (h : Hp) (a0 : Nat) (a1 : Nat) {res : Hp} (hf : fX0_copies h a0 a1 = some res) : Met l yX0_copies (ws_ yX0_copies cX0_copies 3 none) ({ frames := 1, cells := 0, slots := 0, locals := 60 } : Room) (ep_Pc G ep_cl h [.ref a0, .ref a1]) (ep_Qv G ep_cl res) 0 0 (ep_A G) := by
  refine Met.ofW (cc := cX0_copies) (maxL := 3) (ret := none) (by decide) rfl ?_
  intro p e s m args below meth c s₁ B hml hv
  obtain ⟨rfl, hR, hK, hZ⟩ := hv
  have hx := B.exec
  have hb := B.bytes
  have hr := B.returns
  have hlocks := B.notSynchronized
  have hts := atoms_spec (ws := (ws_ yX0_copies cX0_copies 3 none)) B.pre
  have hts : ∀ w ∈ lw_all, w.before _ s = true := fun w h => hts w (List.mem_cons_of_mem _ h)
  have hown : s.vm.findClass RX0 = some m.cls := findClass_of_methodNamed B.named
  have hw : ep_W G ep_cl h s s.heap [] := ⟨hR, va_S.rf⟩
  have hl := lv_entry ([.ref a0, .ref a1]) (n := 3) (Nat.le_of_ble_eq_true rfl)
  rw [lg_entry_eq]
  generalize (lg_sl ([.ref a0, .ref a1]) ++ List.replicate (3 - (lg_sl ([.ref a0, .ref a1])).length) Slot.unset).toArray = ls at hl ⊢
  have hl : lv_has ls 3 [(0, .ref a0), (1, .ref a1)] := hl
  unfold fX0_copies at hf
  show wX0_copies p l e s m below meth c G h a0 a1 res 0 0 s.heap ([]) (F0 m 0 ls [])
  refine lv_iconst (v := iI 0) hx hb dX0_copies_0 rfl ?_
  refine lv_istore_n (lv' := [(2, .int (iI 0)), (0, .ref a0), (1, .ref a1)]) hx hb dX0_copies_1 rfl hl (by decide) rfl (fun ls hl => ?_)
  obtain ⟨o1, ho1, hf⟩ := ob_s hf
  have hJ1 : ∀ (H : Heap) (locs : List Loc) (ls : Array Slot), ep_W G ep_cl o1 s H locs → lv_has ls 3 [] → wX0_copies p l e s m below meth c G h a0 a1 res 0 0 H locs (F0 m 29 ls []) := by
    intro H locs ls hw hl
    exact ep_retvW hx hb hr hlocks hw hf dX0_copies_29
  have hL1 : ∀ (fu : Nat) (h : Hp) (x2 : Int32), fX0_copies_L2 a0 a1 fu h x2 = some o1 → ∀ (H : Heap) (locs : List Loc) (ls : Array Slot), ep_W G ep_cl h s H locs → lv_has ls 3 [(0, .ref a0), (1, .ref a1), (2, .int x2)] → wX0_copies p l e s m below meth c G h a0 a1 res 0 0 H locs (F0 m 2 ls []) := by
    intro fu
    induction fu with
    | zero => intro h x2 ho1; cases ho1
    | succ fu ih1 =>
      intro h x2 ho1 H locs ls hw hl
      rw [fX0_copies_L2] at ho1
      refine lv_iload_n hx hb dX0_copies_2 rfl (lv_at hl 2 rfl) ?_
      refine lv_aload_n hx hb dX0_copies_3 rfl (lv_at hl 0 rfl) ?_
      obtain ⟨v2, ev2, ho1⟩ := ob_s ho1
      refine ep_alenT 5 (by decide) hx hb hK hw ev2 dX0_copies_4 ?_
      refine lv_icmp_ge (tgt := 29) hx hb dX0_copies_5 (by decide) (fun c3 => ?_) (fun c3 => ?_)
      · have ho1 := oi_t ho1 c3
        obtain rfl := Option.some.inj ho1
        exact hJ1 _ _ _ hw (lv_sub hl [] rfl)
      · have ho1 := oi_f ho1 c3
        refine lv_aload_n hx hb dX0_copies_8 rfl (lv_at hl 0 rfl) ?_
        refine lv_iload_n hx hb dX0_copies_9 rfl (lv_at hl 2 rfl) ?_
        obtain ⟨v4, ev4, ho1⟩ := ob_s ho1
        refine ep_aald 5 (by decide) rfl hx hb hK hw ev4 dX0_copies_10 ?_
        refine lv_iconst (v := iI 0) hx hb dX0_copies_11 rfl ?_
        refine lv_aload_n hx hb dX0_copies_12 rfl (lv_at hl 1 rfl) ?_
        refine lv_iload_n hx hb dX0_copies_13 rfl (lv_at hl 2 rfl) ?_
        obtain ⟨v5, ev5, ho1⟩ := ob_s ho1
        refine ep_aald 5 (by decide) rfl hx hb hK hw ev5 dX0_copies_14 ?_
        refine lv_iconst (v := iI 0) hx hb dX0_copies_15 rfl ?_
        refine lv_aload_n hx hb dX0_copies_16 rfl (lv_at hl 0 rfl) ?_
        refine lv_iload_n hx hb dX0_copies_17 rfl (lv_at hl 2 rfl) ?_
        obtain ⟨v6, ev6, ho1⟩ := ob_s ho1
        refine ep_aald 5 (by decide) rfl hx hb hK hw ev6 dX0_copies_18 ?_
        obtain ⟨v7, ev7, ho1⟩ := ob_s ho1
        refine ep_alenT 0 (by decide) hx hb hK hw ev7 dX0_copies_19 ?_
        obtain ⟨h8, eh8, ho1⟩ := ob_s ho1
        refine ep_copy 0 (by decide) rfl hx hb (hml.trans hl.1.symm) hts hown q126 q128 q127 q90 hK hw eh8 (Nat.le_of_ble_eq_true rfl) (Nat.le_of_ble_eq_true rfl) dX0_copies_20 (fun H locs hw => ?_)
        refine lv_iinc (v := (x2 + iI 1)) (lv' := [(2, .int (x2 + iI 1)), (0, .ref a0), (1, .ref a1)]) hx hb dX0_copies_23 hl (k := 2) rfl rfl (by decide) rfl (fun ls hl => ?_)
        refine lv_goto (tgt := 2) hx hb dX0_copies_26 (by decide) ?_
        exact ih1 _ _ ho1 _ _ _ hw (lv_sub hl [1, 2, 0] rfl)
  exact hL1 FUEL _ _ ho1 _ _ _ hw (lv_sub hl [1, 2, 0] rfl)
theorem hdX2_takes : yX2_takes.cls = RX2 ∧ yX2_takes.cls ≠ "java/lang/invoke/MethodHandle" ∧ yX2_takes.cls ≠ "java/lang/invoke/VarHandle" ∧ (parseMethodDescriptor yX2_takes.desc).map (fun d => d.parameters.length) = some 0 := by decide +kernel
theorem ckX2_takes {h : Hp} {a0 : Nat} {res : Hp} (hf : fX2_takes h a0 = some res) : ep_cls h a0 = some 2 := by
  unfold fX2_takes at hf
  exact (oi_c hf).1
abbrev wX2_takes (p : Program) (l : Launch) (e : Env) (s : State) (m : MethodId) (below : List Frame) (meth : Method) (c : Code) (G : EG) (h : Hp) (a0 : Nat) (res : Hp) (k9 n9 : Nat) (H : Heap) (locs : List Loc) (g : JFrame) : Prop := W p l e (headSpec (ws_ yX2_takes cX2_takes 1 none) ({ frames := 2, cells := 0, slots := 0, locals := 82 } : Room)).room s m ([.ref a0] : List Value).toArray below meth c H locs k9 n9 (MQ below (ep_Qv G ep_cl res) ([.ref a0] : List Value).toArray s 0 0 (ep_A G)) g
set_option maxHeartbeats 4000000 in
theorem metX2_takes (l : Launch) (G : EG) (h : Hp) (a0 : Nat) {res : Hp} (hf : fX2_takes h a0 = some res) : Met l yX2_takes (ws_ yX2_takes cX2_takes 1 none) ({ frames := 2, cells := 0, slots := 0, locals := 82 } : Room) (ep_Pc G ep_cl h [.ref a0]) (ep_Qv G ep_cl res) 0 0 (ep_A G) := by
  refine Met.ofW (cc := cX2_takes) (maxL := 1) (ret := none) (by decide) rfl ?_
  intro p e s m args below meth c s₁ B hml hv
  obtain ⟨rfl, hR, hK, hZ⟩ := hv
  have hx := B.exec
  have hb := B.bytes
  have hr := B.returns
  have hlocks := B.notSynchronized
  have hts := atoms_spec (ws := (ws_ yX2_takes cX2_takes 1 none)) B.pre
  have hts : ∀ w ∈ lw_all, w.before _ s = true := fun w h => hts w (List.mem_cons_of_mem _ h)
  have hown : s.vm.findClass RX2 = some m.cls := findClass_of_methodNamed B.named
  have hw : ep_W G ep_cl h s s.heap [] := ⟨hR, va_S.rf⟩
  have hl := lv_entry ([.ref a0]) (n := 1) (Nat.le_of_ble_eq_true rfl)
  rw [lg_entry_eq]
  generalize (lg_sl ([.ref a0]) ++ List.replicate (1 - (lg_sl ([.ref a0])).length) Slot.unset).toArray = ls at hl ⊢
  have hl : lv_has ls 1 [(0, .ref a0)] := hl
  unfold fX2_takes at hf
  have hf := (oi_c hf).2
  show wX2_takes p l e s m below meth c G h a0 res 0 0 s.heap ([]) (F0 m 0 ls [])
  refine lv_aload_n hx hb dX2_takes_0 rfl (lv_at hl 0 rfl) ?_
  obtain ⟨r1, er1, hf⟩ := ob_s hf
  refine ep_get (C := RX2) (T := TX2) (N := 5) (ci := 2) hx hb hts in_X2 hown hK hw rfl 0 (by decide) q896 (gR_f er1) dX2_takes_1 ?_
  refine lv_aload_n hx hb dX2_takes_4 rfl (lv_at hl 0 rfl) ?_
  obtain ⟨r2, er2, hf⟩ := ob_s hf
  refine ep_get (C := RX2) (T := TX2) (N := 5) (ci := 2) hx hb hts in_X2 hown hK hw rfl 4 (by decide) q900 (gR_f er2) dX2_takes_5 ?_
  obtain ⟨r3, er3, hf⟩ := ob_s hf
  refine ep_getN (C := RX0) (T := TX0) (N := 25) (ci := 0) hx hb hts in_X0 hown hK hw rfl 3 (by decide) q929 (gR_f er3) dX2_takes_8 ?_
  obtain ⟨o4, eo4, hf⟩ := ob_s hf
  refine ep_callv0 (va_runV (As := [.ref r3]) (rest := []) ⟨hx, hb, hml, hown, hts⟩ (metX1_takes l G h r1 r3 eo4) (cwV 1 hts (lw_V q864 q536 q537 q86 q538) rfl rfl rfl hdX1_takes ⟨Nat.le_of_ble_eq_true rfl, Nat.le_of_ble_eq_true rfl⟩) (ep_preV hK hZ hw rfl (ckX1_takes eo4)) rfl rfl hl.1 rfl (lv_room (Nat.le_of_ble_eq_true rfl)) dX2_takes_11 ⟨Nat.le_of_ble_eq_true rfl, Nat.le_of_ble_eq_true rfl⟩) hw (fun H locs hw => ?_)
  refine lv_aload_n hx hb dX2_takes_14 rfl (lv_at hl 0 rfl) ?_
  obtain ⟨r5, er5, hf⟩ := ob_s hf
  refine ep_get (C := RX2) (T := TX2) (N := 5) (ci := 2) hx hb hts in_X2 hown hK hw rfl 4 (by decide) q900 (gR_f er5) dX2_takes_15 ?_
  obtain ⟨r6, er6, hf⟩ := ob_s hf
  refine ep_getN (C := RX0) (T := TX0) (N := 25) (ci := 0) hx hb hts in_X0 hown hK hw rfl 17 (by decide) q944 (gR_f er6) dX2_takes_18 ?_
  refine lv_aload_n hx hb dX2_takes_21 rfl (lv_at hl 0 rfl) ?_
  obtain ⟨r7, er7, hf⟩ := ob_s hf
  refine ep_get (C := RX2) (T := TX2) (N := 5) (ci := 2) hx hb hts in_X2 hown hK hw rfl 1 (by decide) q897 (gR_f er7) dX2_takes_22 ?_
  obtain ⟨o8, eo8, hf⟩ := ob_s hf
  refine ep_callv0 (va_runSN (As := [.ref r6, .ref r7]) (rest := []) ⟨hx, hb, hml, hown, hts⟩ (metX0_copies l G o4 r6 r7 eo8) ⟨va_cnB 2 hts (lw_meth q867) rfl rfl rfl (hK.nest q865 rfl) (hts _ q85) hsX0_copies ⟨Nat.le_of_ble_eq_true rfl, Nat.le_of_ble_eq_true rfl⟩, hts _ q866, trivial⟩ (ep_preS hK hZ hw) rfl rfl hl.1 rfl (lv_room (Nat.le_of_ble_eq_true rfl)) dX2_takes_25 ⟨Nat.le_of_ble_eq_true rfl, Nat.le_of_ble_eq_true rfl⟩) hw (fun H locs hw => ?_)
  refine lv_aload_n hx hb dX2_takes_28 rfl (lv_at hl 0 rfl) ?_
  refine lv_aload_n hx hb dX2_takes_29 rfl (lv_at hl 0 rfl) ?_
  obtain ⟨r9, er9, hf⟩ := ob_s hf
  refine ep_get (C := RX2) (T := TX2) (N := 5) (ci := 2) hx hb hts in_X2 hown hK hw rfl 4 (by decide) q900 (gR_f er9) dX2_takes_30 ?_
  obtain ⟨v10, ev10, hf⟩ := ob_s hf
  refine ep_getN (C := RX0) (T := TX0) (N := 25) (ci := 0) hx hb hts in_X0 hown hK hw rfl 18 (by decide) q946 (gI_f ev10) dX2_takes_33 ?_
  obtain ⟨h11, eh11, hf⟩ := ob_s hf
  refine ep_put (C := RX2) (T := TX2) (N := 5) (ci := 2) hx hb hts in_X2 tyX2 tyX2_ok nmX2 hown hK hw rfl (by decide) 2 (by decide) q898 rfl rfl rfl eh11 dX2_takes_36 (fun H locs hw => ?_)
  exact ep_retvW hx hb hr hlocks hw hf dX2_takes_39
theorem hdX0_keep : yX0_keep.cls = RX0 ∧ yX0_keep.cls ≠ "java/lang/invoke/MethodHandle" ∧ yX0_keep.cls ≠ "java/lang/invoke/VarHandle" ∧ (parseMethodDescriptor yX0_keep.desc).map (fun d => d.parameters.length) = some 1 := by decide +kernel
theorem ckX0_keep {h : Hp} {a0 : Nat} {x1 : Int32} {res : Int32 × Hp} (hf : fX0_keep h a0 x1 = some res) : ep_cls h a0 = some 0 := by
  unfold fX0_keep at hf
  exact (oi_c hf).1
abbrev wX0_keep (p : Program) (l : Launch) (e : Env) (s : State) (m : MethodId) (below : List Frame) (meth : Method) (c : Code) (G : EG) (h : Hp) (a0 : Nat) (x1 : Int32) (res : Int32 × Hp) (k9 n9 : Nat) (H : Heap) (locs : List Loc) (g : JFrame) : Prop := W p l e (headSpec (ws_ yX0_keep cX0_keep 3 (some .int)) ({ frames := 3, cells := 0, slots := 0, locals := 102 } : Room)).room s m ([.ref a0, .int x1] : List Value).toArray below meth c H locs k9 n9 (MQ below (ep_Qi G ep_cl res.2 res.1) ([.ref a0, .int x1] : List Value).toArray s 0 0 (ep_A G)) g
set_option maxHeartbeats 4000000 in
theorem metX0_keep (l : Launch) (G : EG) (h : Hp) (a0 : Nat) (x1 : Int32) {res : Int32 × Hp} (hf : fX0_keep h a0 x1 = some res) : Met l yX0_keep (ws_ yX0_keep cX0_keep 3 (some .int)) ({ frames := 3, cells := 0, slots := 0, locals := 102 } : Room) (ep_Pc G ep_cl h [.ref a0, .int x1]) (ep_Qi G ep_cl res.2 res.1) 0 0 (ep_A G) := by
  refine Met.ofW (cc := cX0_keep) (maxL := 3) (ret := (some .int)) (by decide) rfl ?_
  intro p e s m args below meth c s₁ B hml hv
  obtain ⟨rfl, hR, hK, hZ⟩ := hv
  have hx := B.exec
  have hb := B.bytes
  have hr := B.returns
  have hlocks := B.notSynchronized
  have hts := atoms_spec (ws := (ws_ yX0_keep cX0_keep 3 (some .int))) B.pre
  have hts : ∀ w ∈ lw_all, w.before _ s = true := fun w h => hts w (List.mem_cons_of_mem _ h)
  have hown : s.vm.findClass RX0 = some m.cls := findClass_of_methodNamed B.named
  have hw : ep_W G ep_cl h s s.heap [] := ⟨hR, va_S.rf⟩
  have hl := lv_entry ([.ref a0, .int x1]) (n := 3) (Nat.le_of_ble_eq_true rfl)
  rw [lg_entry_eq]
  generalize (lg_sl ([.ref a0, .int x1]) ++ List.replicate (3 - (lg_sl ([.ref a0, .int x1])).length) Slot.unset).toArray = ls at hl ⊢
  have hl : lv_has ls 3 [(0, .ref a0), (1, .int x1)] := hl
  unfold fX0_keep at hf
  have hf := (oi_c hf).2
  show wX0_keep p l e s m below meth c G h a0 x1 res 0 0 s.heap ([]) (F0 m 0 ls [])
  refine lv_iload_n hx hb dX0_keep_0 rfl (lv_at hl 1 rfl) ?_
  refine lv_i2l (v := x1.toInt64) hx hb dX0_keep_1 rfl ?_
  refine lv_lconst (v := lI 0) hx hb dX0_keep_2 (by decide) ?_
  refine lv_lconst (v := lI 1) hx hb dX0_keep_3 (by decide) ?_
  obtain ⟨v1, ev1, hf⟩ := ob_s hf
  refine ep_calli0 (va_runS (As := [.long x1.toInt64, .long (lI 0), .long (lI 1)]) (rest := []) ⟨hx, hb, hml, hown, hts⟩ (metX0_isIn l G h x1.toInt64 (lI 0) (lI 1) ev1) (va_cwS 3 hts (lw_S q114 q115 q85 q116) rfl rfl rfl hsX0_isIn ⟨Nat.le_of_ble_eq_true rfl, Nat.le_of_ble_eq_true rfl⟩) (ep_preS hK hZ hw) rfl rfl hl.1 rfl (lv_room (Nat.le_of_ble_eq_true rfl)) dX0_keep_4 ⟨Nat.le_of_ble_eq_true rfl, Nat.le_of_ble_eq_true rfl⟩) hw (fun H locs hw => ?_)
  refine lv_if_ne (tgt := 12) hx hb dX0_keep_7 (by decide) (fun c2 => ?_) (fun c2 => ?_)
  · have hf := oi_f hf c2
    refine lv_aload_n hx hb dX0_keep_12 rfl (lv_at hl 0 rfl) ?_
    obtain ⟨r3, er3, hf⟩ := ob_s hf
    refine ep_get (C := RX0) (T := TX0) (N := 25) (ci := 0) hx hb hts in_X0 hown hK hw rfl 19 (by decide) q948 (gR_f er3) dX0_keep_13 ?_
    refine lv_iload_n hx hb dX0_keep_16 rfl (lv_at hl 1 rfl) ?_
    obtain ⟨v4, ev4, hf⟩ := ob_s hf
    refine ep_aald 7 (by decide) rfl hx hb hK hw ev4 dX0_keep_17 ?_
    obtain ⟨v5, ev5, hf⟩ := ob_s hf
    refine ep_getN (C := RX2) (T := TX2) (N := 5) (ci := 2) hx hb hts in_X2 hown hK hw rfl 3 (by decide) q899 (gI_f ev5) dX0_keep_18 ?_
    have hJ6 : wX0_keep p l e s m below meth c G h a0 x1 res 0 0 H locs (F0 m 29 ls [.int (if v5 = 0 then iI 0 else iI 1)]) := by
      refine lv_istore_n (lv' := [(2, .int (if v5 = 0 then iI 0 else iI 1)), (0, .ref a0), (1, .int x1)]) hx hb dX0_keep_29 rfl hl (by decide) rfl (fun ls hl => ?_)
      refine lv_aload_n hx hb dX0_keep_30 rfl (lv_at hl 1 rfl) ?_
      obtain ⟨r8, er8, hf⟩ := ob_s hf
      refine ep_get (C := RX0) (T := TX0) (N := 25) (ci := 0) hx hb hts in_X0 hown hK hw rfl 19 (by decide) q948 (gR_f er8) dX0_keep_31 ?_
      refine lv_iload_n hx hb dX0_keep_34 rfl (lv_at hl 2 rfl) ?_
      obtain ⟨v9, ev9, hf⟩ := ob_s hf
      refine ep_aald 7 (by decide) rfl hx hb hK hw ev9 dX0_keep_35 ?_
      obtain ⟨o10, eo10, hf⟩ := ob_s hf
      refine ep_callv0 (va_runV (As := []) (rest := []) ⟨hx, hb, hml, hown, hts⟩ (metX2_takes l G h v9 eo10) (cwV 0 hts (lw_V q860 q861 q862 q87 q863) rfl rfl rfl hdX2_takes ⟨Nat.le_of_ble_eq_true rfl, Nat.le_of_ble_eq_true rfl⟩) (ep_preV hK hZ hw rfl (ckX2_takes eo10)) rfl rfl hl.1 rfl (lv_room (Nat.le_of_ble_eq_true rfl)) dX0_keep_36 ⟨Nat.le_of_ble_eq_true rfl, Nat.le_of_ble_eq_true rfl⟩) hw (fun H locs hw => ?_)
      refine lv_aload_n hx hb dX0_keep_39 rfl (lv_at hl 1 rfl) ?_
      obtain ⟨r11, er11, hf⟩ := ob_s hf
      refine ep_get (C := RX0) (T := TX0) (N := 25) (ci := 0) hx hb hts in_X0 hown hK hw rfl 19 (by decide) q948 (gR_f er11) dX0_keep_40 ?_
      refine lv_iload_n hx hb dX0_keep_43 rfl (lv_at hl 2 rfl) ?_
      obtain ⟨v12, ev12, hf⟩ := ob_s hf
      refine ep_aald 7 (by decide) rfl hx hb hK hw ev12 dX0_keep_44 ?_
      refine lv_iconst (v := iI 1) hx hb dX0_keep_45 rfl ?_
      obtain ⟨h13, eh13, hf⟩ := ob_s hf
      refine ep_putN (C := RX2) (T := TX2) (N := 5) (ci := 2) hx hb hts in_X2 tyX2 tyX2_ok nmX2 hown hK hw rfl (by decide) 3 (by decide) q899 rfl rfl rfl eh13 dX0_keep_46 (fun H locs hw => ?_)
      refine lv_iload_n hx hb dX0_keep_49 rfl (lv_at hl 0 rfl) ?_
      exact ep_retiW hx hb hr hlocks hw hf dX0_keep_50
    refine lv_if_eq (tgt := 28) hx hb dX0_keep_21 (by decide) (fun c7 => ?_) (fun c7 => ?_)
    · refine lv_iconst (v := iI 0) hx hb dX0_keep_28 rfl ?_
      rw [if_pos c7] at hJ6
      exact hJ6
    · refine lv_iconst (v := iI 1) hx hb dX0_keep_24 rfl ?_
      refine lv_goto (tgt := 29) hx hb dX0_keep_25 (by decide) ?_
      rw [if_neg c7] at hJ6
      exact hJ6
  · have hf := oi_t hf c2
    refine lv_iconst (v := iI (-1)) hx hb dX0_keep_10 rfl ?_
    exact ep_retiW hx hb hr hlocks hw hf dX0_keep_11
theorem hdX2_gives : yX2_gives.cls = RX2 ∧ yX2_gives.cls ≠ "java/lang/invoke/MethodHandle" ∧ yX2_gives.cls ≠ "java/lang/invoke/VarHandle" ∧ (parseMethodDescriptor yX2_gives.desc).map (fun d => d.parameters.length) = some 0 := by decide +kernel
theorem ckX2_gives {h : Hp} {a0 : Nat} {res : Hp} (hf : fX2_gives h a0 = some res) : ep_cls h a0 = some 2 := by
  unfold fX2_gives at hf
  exact (oi_c hf).1
abbrev wX2_gives (p : Program) (l : Launch) (e : Env) (s : State) (m : MethodId) (below : List Frame) (meth : Method) (c : Code) (G : EG) (h : Hp) (a0 : Nat) (res : Hp) (k9 n9 : Nat) (H : Heap) (locs : List Loc) (g : JFrame) : Prop := W p l e (headSpec (ws_ yX2_gives cX2_gives 1 none) ({ frames := 2, cells := 0, slots := 0, locals := 82 } : Room)).room s m ([.ref a0] : List Value).toArray below meth c H locs k9 n9 (MQ below (ep_Qv G ep_cl res) ([.ref a0] : List Value).toArray s 0 0 (ep_A G)) g
set_option maxHeartbeats 4000000 in
theorem metX2_gives (l : Launch) (G : EG) (h : Hp) (a0 : Nat) {res : Hp} (hf : fX2_gives h a0 = some res) : Met l yX2_gives (ws_ yX2_gives cX2_gives 1 none) ({ frames := 2, cells := 0, slots := 0, locals := 82 } : Room) (ep_Pc G ep_cl h [.ref a0]) (ep_Qv G ep_cl res) 0 0 (ep_A G) := by
  refine Met.ofW (cc := cX2_gives) (maxL := 1) (ret := none) (by decide) rfl ?_
  intro p e s m args below meth c s₁ B hml hv
  obtain ⟨rfl, hR, hK, hZ⟩ := hv
  have hx := B.exec
  have hb := B.bytes
  have hr := B.returns
  have hlocks := B.notSynchronized
  have hts := atoms_spec (ws := (ws_ yX2_gives cX2_gives 1 none)) B.pre
  have hts : ∀ w ∈ lw_all, w.before _ s = true := fun w h => hts w (List.mem_cons_of_mem _ h)
  have hown : s.vm.findClass RX2 = some m.cls := findClass_of_methodNamed B.named
  have hw : ep_W G ep_cl h s s.heap [] := ⟨hR, va_S.rf⟩
  have hl := lv_entry ([.ref a0]) (n := 1) (Nat.le_of_ble_eq_true rfl)
  rw [lg_entry_eq]
  generalize (lg_sl ([.ref a0]) ++ List.replicate (1 - (lg_sl ([.ref a0])).length) Slot.unset).toArray = ls at hl ⊢
  have hl : lv_has ls 1 [(0, .ref a0)] := hl
  unfold fX2_gives at hf
  have hf := (oi_c hf).2
  show wX2_gives p l e s m below meth c G h a0 res 0 0 s.heap ([]) (F0 m 0 ls [])
  refine lv_aload_n hx hb dX2_gives_0 rfl (lv_at hl 0 rfl) ?_
  obtain ⟨r1, er1, hf⟩ := ob_s hf
  refine ep_get (C := RX2) (T := TX2) (N := 5) (ci := 2) hx hb hts in_X2 hown hK hw rfl 4 (by decide) q900 (gR_f er1) dX2_gives_1 ?_
  obtain ⟨r2, er2, hf⟩ := ob_s hf
  refine ep_getN (C := RX0) (T := TX0) (N := 25) (ci := 0) hx hb hts in_X0 hown hK hw rfl 3 (by decide) q929 (gR_f er2) dX2_gives_4 ?_
  refine lv_aload_n hx hb dX2_gives_7 rfl (lv_at hl 0 rfl) ?_
  obtain ⟨r3, er3, hf⟩ := ob_s hf
  refine ep_get (C := RX2) (T := TX2) (N := 5) (ci := 2) hx hb hts in_X2 hown hK hw rfl 0 (by decide) q896 (gR_f er3) dX2_gives_8 ?_
  obtain ⟨o4, eo4, hf⟩ := ob_s hf
  refine ep_callv0 (va_runV (As := [.ref r3]) (rest := []) ⟨hx, hb, hml, hown, hts⟩ (metX1_takes l G h r2 r3 eo4) (cwV 1 hts (lw_V q864 q536 q537 q86 q538) rfl rfl rfl hdX1_takes ⟨Nat.le_of_ble_eq_true rfl, Nat.le_of_ble_eq_true rfl⟩) (ep_preV hK hZ hw rfl (ckX1_takes eo4)) rfl rfl hl.1 rfl (lv_room (Nat.le_of_ble_eq_true rfl)) dX2_gives_11 ⟨Nat.le_of_ble_eq_true rfl, Nat.le_of_ble_eq_true rfl⟩) hw (fun H locs hw => ?_)
  refine lv_aload_n hx hb dX2_gives_14 rfl (lv_at hl 0 rfl) ?_
  obtain ⟨r5, er5, hf⟩ := ob_s hf
  refine ep_get (C := RX2) (T := TX2) (N := 5) (ci := 2) hx hb hts in_X2 hown hK hw rfl 1 (by decide) q897 (gR_f er5) dX2_gives_15 ?_
  refine lv_aload_n hx hb dX2_gives_18 rfl (lv_at hl 0 rfl) ?_
  obtain ⟨r6, er6, hf⟩ := ob_s hf
  refine ep_get (C := RX2) (T := TX2) (N := 5) (ci := 2) hx hb hts in_X2 hown hK hw rfl 4 (by decide) q900 (gR_f er6) dX2_gives_19 ?_
  obtain ⟨r7, er7, hf⟩ := ob_s hf
  refine ep_getN (C := RX0) (T := TX0) (N := 25) (ci := 0) hx hb hts in_X0 hown hK hw rfl 17 (by decide) q944 (gR_f er7) dX2_gives_22 ?_
  obtain ⟨o8, eo8, hf⟩ := ob_s hf
  refine ep_callv0 (va_runSN (As := [.ref r5, .ref r7]) (rest := []) ⟨hx, hb, hml, hown, hts⟩ (metX0_copies l G o4 r5 r7 eo8) ⟨va_cnB 2 hts (lw_meth q867) rfl rfl rfl (hK.nest q865 rfl) (hts _ q85) hsX0_copies ⟨Nat.le_of_ble_eq_true rfl, Nat.le_of_ble_eq_true rfl⟩, hts _ q866, trivial⟩ (ep_preS hK hZ hw) rfl rfl hl.1 rfl (lv_room (Nat.le_of_ble_eq_true rfl)) dX2_gives_25 ⟨Nat.le_of_ble_eq_true rfl, Nat.le_of_ble_eq_true rfl⟩) hw (fun H locs hw => ?_)
  refine lv_aload_n hx hb dX2_gives_28 rfl (lv_at hl 0 rfl) ?_
  obtain ⟨r9, er9, hf⟩ := ob_s hf
  refine ep_get (C := RX2) (T := TX2) (N := 5) (ci := 2) hx hb hts in_X2 hown hK hw rfl 4 (by decide) q900 (gR_f er9) dX2_gives_29 ?_
  refine lv_aload_n hx hb dX2_gives_32 rfl (lv_at hl 0 rfl) ?_
  obtain ⟨v10, ev10, hf⟩ := ob_s hf
  refine ep_get (C := RX2) (T := TX2) (N := 5) (ci := 2) hx hb hts in_X2 hown hK hw rfl 2 (by decide) q898 (gI_f ev10) dX2_gives_33 ?_
  obtain ⟨h11, eh11, hf⟩ := ob_s hf
  refine ep_putN (C := RX0) (T := TX0) (N := 25) (ci := 0) hx hb hts in_X0 tyX0 tyX0_ok nmX0 hown hK hw rfl (by decide) 18 (by decide) q946 rfl rfl rfl eh11 dX2_gives_36 (fun H locs hw => ?_)
  exact ep_retvW hx hb hr hlocks hw hf dX2_gives_39
theorem hdX0_back : yX0_back.cls = RX0 ∧ yX0_back.cls ≠ "java/lang/invoke/MethodHandle" ∧ yX0_back.cls ≠ "java/lang/invoke/VarHandle" ∧ (parseMethodDescriptor yX0_back.desc).map (fun d => d.parameters.length) = some 1 := by decide +kernel
theorem ckX0_back {h : Hp} {a0 : Nat} {x1 : Int32} {res : Int32 × Hp} (hf : fX0_back h a0 x1 = some res) : ep_cls h a0 = some 0 := by
  unfold fX0_back at hf
  exact (oi_c hf).1
abbrev wX0_back (p : Program) (l : Launch) (e : Env) (s : State) (m : MethodId) (below : List Frame) (meth : Method) (c : Code) (G : EG) (h : Hp) (a0 : Nat) (x1 : Int32) (res : Int32 × Hp) (k9 n9 : Nat) (H : Heap) (locs : List Loc) (g : JFrame) : Prop := W p l e (headSpec (ws_ yX0_back cX0_back 2 (some .int)) ({ frames := 3, cells := 0, slots := 0, locals := 102 } : Room)).room s m ([.ref a0, .int x1] : List Value).toArray below meth c H locs k9 n9 (MQ below (ep_Qi G ep_cl res.2 res.1) ([.ref a0, .int x1] : List Value).toArray s 0 0 (ep_A G)) g
set_option maxHeartbeats 4000000 in
theorem metX0_back (l : Launch) (G : EG) (h : Hp) (a0 : Nat) (x1 : Int32) {res : Int32 × Hp} (hf : fX0_back h a0 x1 = some res) : Met l yX0_back (ws_ yX0_back cX0_back 2 (some .int)) ({ frames := 3, cells := 0, slots := 0, locals := 102 } : Room) (ep_Pc G ep_cl h [.ref a0, .int x1]) (ep_Qi G ep_cl res.2 res.1) 0 0 (ep_A G) := by
  refine Met.ofW (cc := cX0_back) (maxL := 2) (ret := (some .int)) (by decide) rfl ?_
  intro p e s m args below meth c s₁ B hml hv
  obtain ⟨rfl, hR, hK, hZ⟩ := hv
  have hx := B.exec
  have hb := B.bytes
  have hr := B.returns
  have hlocks := B.notSynchronized
  have hts := atoms_spec (ws := (ws_ yX0_back cX0_back 2 (some .int))) B.pre
  have hts : ∀ w ∈ lw_all, w.before _ s = true := fun w h => hts w (List.mem_cons_of_mem _ h)
  have hown : s.vm.findClass RX0 = some m.cls := findClass_of_methodNamed B.named
  have hw : ep_W G ep_cl h s s.heap [] := ⟨hR, va_S.rf⟩
  have hl := lv_entry ([.ref a0, .int x1]) (n := 2) (Nat.le_of_ble_eq_true rfl)
  rw [lg_entry_eq]
  generalize (lg_sl ([.ref a0, .int x1]) ++ List.replicate (2 - (lg_sl ([.ref a0, .int x1])).length) Slot.unset).toArray = ls at hl ⊢
  have hl : lv_has ls 2 [(0, .ref a0), (1, .int x1)] := hl
  unfold fX0_back at hf
  have hf := (oi_c hf).2
  show wX0_back p l e s m below meth c G h a0 x1 res 0 0 s.heap ([]) (F0 m 0 ls [])
  refine lv_iload_n hx hb dX0_back_0 rfl (lv_at hl 1 rfl) ?_
  refine lv_i2l (v := x1.toInt64) hx hb dX0_back_1 rfl ?_
  refine lv_lconst (v := lI 0) hx hb dX0_back_2 (by decide) ?_
  refine lv_lconst (v := lI 1) hx hb dX0_back_3 (by decide) ?_
  obtain ⟨v1, ev1, hf⟩ := ob_s hf
  refine ep_calli0 (va_runS (As := [.long x1.toInt64, .long (lI 0), .long (lI 1)]) (rest := []) ⟨hx, hb, hml, hown, hts⟩ (metX0_isIn l G h x1.toInt64 (lI 0) (lI 1) ev1) (va_cwS 3 hts (lw_S q114 q115 q85 q116) rfl rfl rfl hsX0_isIn ⟨Nat.le_of_ble_eq_true rfl, Nat.le_of_ble_eq_true rfl⟩) (ep_preS hK hZ hw) rfl rfl hl.1 rfl (lv_room (Nat.le_of_ble_eq_true rfl)) dX0_back_4 ⟨Nat.le_of_ble_eq_true rfl, Nat.le_of_ble_eq_true rfl⟩) hw (fun H locs hw => ?_)
  refine lv_if_ne (tgt := 12) hx hb dX0_back_7 (by decide) (fun c2 => ?_) (fun c2 => ?_)
  · have hf := oi_f hf c2
    refine lv_aload_n hx hb dX0_back_12 rfl (lv_at hl 0 rfl) ?_
    obtain ⟨r3, er3, hf⟩ := ob_s hf
    refine ep_get (C := RX0) (T := TX0) (N := 25) (ci := 0) hx hb hts in_X0 hown hK hw rfl 19 (by decide) q948 (gR_f er3) dX0_back_13 ?_
    refine lv_iload_n hx hb dX0_back_16 rfl (lv_at hl 1 rfl) ?_
    obtain ⟨v4, ev4, hf⟩ := ob_s hf
    refine ep_aald 7 (by decide) rfl hx hb hK hw ev4 dX0_back_17 ?_
    obtain ⟨v5, ev5, hf⟩ := ob_s hf
    refine ep_getN (C := RX2) (T := TX2) (N := 5) (ci := 2) hx hb hts in_X2 hown hK hw rfl 3 (by decide) q899 (gI_f ev5) dX0_back_18 ?_
    refine lv_if_ne (tgt := 27) hx hb dX0_back_21 (by decide) (fun c6 => ?_) (fun c6 => ?_)
    · have hf := oi_f hf c6
      refine lv_aload_n hx hb dX0_back_27 rfl (lv_at hl 0 rfl) ?_
      obtain ⟨r7, er7, hf⟩ := ob_s hf
      refine ep_get (C := RX0) (T := TX0) (N := 25) (ci := 0) hx hb hts in_X0 hown hK hw rfl 19 (by decide) q948 (gR_f er7) dX0_back_28 ?_
      refine lv_iload_n hx hb dX0_back_31 rfl (lv_at hl 1 rfl) ?_
      obtain ⟨v8, ev8, hf⟩ := ob_s hf
      refine ep_aald 7 (by decide) rfl hx hb hK hw ev8 dX0_back_32 ?_
      obtain ⟨o9, eo9, hf⟩ := ob_s hf
      refine ep_callv0 (va_runV (As := []) (rest := []) ⟨hx, hb, hml, hown, hts⟩ (metX2_gives l G h v8 eo9) (cwV 0 hts (lw_V q872 q873 q874 q87 q875) rfl rfl rfl hdX2_gives ⟨Nat.le_of_ble_eq_true rfl, Nat.le_of_ble_eq_true rfl⟩) (ep_preV hK hZ hw rfl (ckX2_gives eo9)) rfl rfl hl.1 rfl (lv_room (Nat.le_of_ble_eq_true rfl)) dX0_back_33 ⟨Nat.le_of_ble_eq_true rfl, Nat.le_of_ble_eq_true rfl⟩) hw (fun H locs hw => ?_)
      refine lv_aload_n hx hb dX0_back_36 rfl (lv_at hl 0 rfl) ?_
      obtain ⟨r10, er10, hf⟩ := ob_s hf
      refine ep_get (C := RX0) (T := TX0) (N := 25) (ci := 0) hx hb hts in_X0 hown hK hw rfl 3 (by decide) q930 (gR_f er10) dX0_back_37 ?_
      obtain ⟨v11, ev11, hf⟩ := ob_s hf
      refine ep_getN (C := RX1) (T := TX1) (N := 11) (ci := 1) hx hb hts in_X1 hown hK hw rfl 10 (by decide) q174 (gI_f ev11) dX0_back_40 ?_
      exact ep_retiW hx hb hr hlocks hw hf dX0_back_43
    · have hf := oi_t hf c6
      refine lv_bipush (v := iI (-2)) hx hb dX0_back_24 (by decide) ?_
      exact ep_retiW hx hb hr hlocks hw hf dX0_back_26
  · have hf := oi_t hf c2
    refine lv_iconst (v := iI (-1)) hx hb dX0_back_10 rfl ?_
    exact ep_retiW hx hb hr hlocks hw hf dX0_back_11
theorem hdX2_init : yX2_init.cls = RX2 ∧ yX2_init.cls ≠ "java/lang/invoke/MethodHandle" ∧ yX2_init.cls ≠ "java/lang/invoke/VarHandle" ∧ (parseMethodDescriptor yX2_init.desc).map (fun d => d.parameters.length) = some 1 := by decide +kernel
theorem ckX2_init {h : Hp} {a0 : Nat} {a1 : Nat} {res : Hp} (hf : fX2_init h a0 a1 = some res) : ep_cls h a0 = some 2 := by
  unfold fX2_init at hf
  exact (oi_c hf).1
abbrev wX2_init (p : Program) (l : Launch) (e : Env) (s : State) (m : MethodId) (below : List Frame) (meth : Method) (c : Code) (G : EG) (h : Hp) (a0 : Nat) (a1 : Nat) (res : Hp) (k9 n9 : Nat) (H : Heap) (locs : List Loc) (g : JFrame) : Prop := W p l e (headSpec (ws_ yX2_init cX2_init 2 none) ({ frames := 2, cells := 20, slots := 93, locals := 40 } : Room)).room s m ([.ref a0, .ref a1] : List Value).toArray below meth c H locs k9 n9 (MQ below (ep_Qv G ep_cl res) ([.ref a0, .ref a1] : List Value).toArray s 20 93 (ep_A G)) g
set_option maxHeartbeats 4000000 in
theorem metX2_init (l : Launch) (G : EG) (h : Hp) (a0 : Nat) (a1 : Nat) {res : Hp} (hf : fX2_init h a0 a1 = some res) : Met l yX2_init (ws_ yX2_init cX2_init 2 none) ({ frames := 2, cells := 20, slots := 93, locals := 40 } : Room) (ep_Pc G ep_cl h [.ref a0, .ref a1]) (ep_Qv G ep_cl res) 20 93 (ep_A G) := by
  refine Met.ofW (cc := cX2_init) (maxL := 2) (ret := none) (by decide) rfl ?_
  intro p e s m args below meth c s₁ B hml hv
  obtain ⟨rfl, hR, hK, hZ⟩ := hv
  have hx := B.exec
  have hb := B.bytes
  have hr := B.returns
  have hlocks := B.notSynchronized
  have hts := atoms_spec (ws := (ws_ yX2_init cX2_init 2 none)) B.pre
  have hts : ∀ w ∈ lw_all, w.before _ s = true := fun w h => hts w (List.mem_cons_of_mem _ h)
  have hown : s.vm.findClass RX2 = some m.cls := findClass_of_methodNamed B.named
  have hin : meth.name = "<init>" := (name_of_methodNamed B.named B.method).1
  have hw : ep_W G ep_cl h s s.heap [] := ⟨hR, va_S.rf⟩
  have hl := lv_entry ([.ref a0, .ref a1]) (n := 2) (Nat.le_of_ble_eq_true rfl)
  rw [lg_entry_eq]
  generalize (lg_sl ([.ref a0, .ref a1]) ++ List.replicate (2 - (lg_sl ([.ref a0, .ref a1])).length) Slot.unset).toArray = ls at hl ⊢
  have hl : lv_has ls 2 [(0, .ref a0), (1, .ref a1)] := hl
  unfold fX2_init at hf
  have hf := (oi_c hf).2
  show wX2_init p l e s m below meth c G h a0 a1 res 0 0 s.heap ([]) (F0 m 0 ls [])
  refine lv_aload_n hx hb dX2_init_0 rfl (lv_at hl 0 rfl) ?_
  refine lv_aload_n hx hb dX2_init_1 rfl (lv_at hl 1 rfl) ?_
  obtain ⟨h1, eh1, hf⟩ := ob_s hf
  refine ep_putF (C := RX2) (T := TX2) (N := 5) (ci := 2) hx hb hts in_X2 tyX2 tyX2_ok nmX2 hown hK hw rfl (by decide) 4 (by decide) q900 rfl hin rfl rfl rfl eh1 dX2_init_2 (fun H locs hw => ?_)
  refine lv_aload_n hx hb dX2_init_5 rfl (lv_at hl 0 rfl) ?_
  refine W.objInit hx hb hown (hts _ q892) (hts _ q135) (hts _ q136) rfl (by rw [hml]; exact hl.1) rfl dX2_init_6 (Nat.le_of_ble_eq_true rfl) (Nat.le_of_ble_eq_true rfl) ?_
  refine W.eq (g2 := F0 m 9 ls []) rfl ?_
  refine lv_aload_n hx hb dX2_init_9 rfl (lv_at hl 0 rfl) ?_
  obtain ⟨h2, eh2, hf⟩ := ob_s hf
  refine ep_newH (C := RX1) (T := TX1) (N := 11) (ci := 1) hx hb hts in_X1 tyX1 tyX1_ok hown q893 q138 q86 hK hw rfl (by decide) (Nat.le_of_ble_eq_true rfl) (Nat.le_of_ble_eq_true rfl) eh2 dX2_init_10 (fun H locs hw => ?_)
  refine lv_dup hx hb dX2_init_13 rfl ?_
  obtain ⟨o3, eo3, hf⟩ := ob_s hf
  refine ep_callv (va_runIN (As := []) (rest := [.ref h1.1, .ref a0]) ⟨hx, hb, hml, hown, hts⟩ (metX1_init l G h2 h1.1 eo3) ⟨va_cnB 0 hts (lw_meth q141) rfl rfl rfl (hK.nest q894 rfl) (hts _ q86) hdX1_init.2 ⟨Nat.le_of_ble_eq_true rfl, Nat.le_of_ble_eq_true rfl⟩, rfl, hts _ q140⟩ (ep_preS hK hZ hw) rfl rfl hl.1 rfl (lv_room (Nat.le_of_ble_eq_true rfl)) dX2_init_14 ⟨Nat.le_of_ble_eq_true rfl, Nat.le_of_ble_eq_true rfl⟩) hw (fun H locs hw => ?_)
  obtain ⟨h4, eh4, hf⟩ := ob_s hf
  refine ep_putF (C := RX2) (T := TX2) (N := 5) (ci := 2) hx hb hts in_X2 tyX2 tyX2_ok nmX2 hown hK hw rfl (by decide) 0 (by decide) q896 rfl hin rfl rfl rfl eh4 dX2_init_17 (fun H locs hw => ?_)
  refine lv_aload_n hx hb dX2_init_20 rfl (lv_at hl 0 rfl) ?_
  refine lv_bipush (v := iI 6) hx hb dX2_init_21 (by decide) ?_
  refine lv_iconst (v := iI 3) hx hb dX2_init_23 rfl ?_
  obtain ⟨h5, eh5, hf⟩ := ob_s hf
  refine ep_multiH 5 0 6 3 (ty := .int) hx hb hts hown q895 q199 (by decide) (by decide) rfl rfl (fun _ _ => rfl) rfl rfl rfl hK.2.2.2.2.2.1 hK hw (by decide) (by decide) (by decide) (Nat.le_of_ble_eq_true rfl) (Nat.le_of_ble_eq_true rfl) eh5 dX2_init_24 (fun H locs hw => ?_)
  obtain ⟨h6, eh6, hf⟩ := ob_s hf
  refine ep_putF (C := RX2) (T := TX2) (N := 5) (ci := 2) hx hb hts in_X2 tyX2 tyX2_ok nmX2 hown hK hw rfl (by decide) 1 (by decide) q897 rfl hin rfl rfl rfl eh6 dX2_init_28 (fun H locs hw => ?_)
  exact ep_retvW hx hb hr hlocks hw hf dX2_init_31
theorem hdX3_init : yX3_init.cls = RX3 ∧ yX3_init.cls ≠ "java/lang/invoke/MethodHandle" ∧ yX3_init.cls ≠ "java/lang/invoke/VarHandle" ∧ (parseMethodDescriptor yX3_init.desc).map (fun d => d.parameters.length) = some 0 := by decide +kernel
theorem ckX3_init {h : Hp} {a0 : Nat} {res : Unit} (hf : fX3_init h a0 = some res) : ep_cls h a0 = some 3 := by
  unfold fX3_init at hf
  exact (oi_c hf).1
abbrev wX3_init (p : Program) (l : Launch) (e : Env) (s : State) (m : MethodId) (below : List Frame) (meth : Method) (c : Code) (G : EG) (h : Hp) (a0 : Nat) (res : Unit) (k9 n9 : Nat) (H : Heap) (locs : List Loc) (g : JFrame) : Prop := W p l e (headSpec (ws_ yX3_init cX3_init 1 none) ({ frames := 1, cells := 0, slots := 0, locals := 20 } : Room)).room s m ([.ref a0] : List Value).toArray below meth c H locs k9 n9 (MQ below (ep_Qv G ep_cl h) ([.ref a0] : List Value).toArray s 0 0 (ep_A G)) g
set_option maxHeartbeats 4000000 in
theorem metX3_init (l : Launch) (G : EG) (h : Hp) (a0 : Nat) {res : Unit} (hf : fX3_init h a0 = some res) : Met l yX3_init (ws_ yX3_init cX3_init 1 none) ({ frames := 1, cells := 0, slots := 0, locals := 20 } : Room) (ep_Pc G ep_cl h [.ref a0]) (ep_Qv G ep_cl h) 0 0 (ep_A G) := by
  refine Met.ofW (cc := cX3_init) (maxL := 1) (ret := none) (by decide) rfl ?_
  intro p e s m args below meth c s₁ B hml hv
  obtain ⟨rfl, hR, hK, hZ⟩ := hv
  have hx := B.exec
  have hb := B.bytes
  have hr := B.returns
  have hlocks := B.notSynchronized
  have hts := atoms_spec (ws := (ws_ yX3_init cX3_init 1 none)) B.pre
  have hts : ∀ w ∈ lw_all, w.before _ s = true := fun w h => hts w (List.mem_cons_of_mem _ h)
  have hown : s.vm.findClass RX3 = some m.cls := findClass_of_methodNamed B.named
  have hin : meth.name = "<init>" := (name_of_methodNamed B.named B.method).1
  have hw : ep_W G ep_cl h s s.heap [] := ⟨hR, va_S.rf⟩
  have hl := lv_entry ([.ref a0]) (n := 1) (Nat.le_of_ble_eq_true rfl)
  rw [lg_entry_eq]
  generalize (lg_sl ([.ref a0]) ++ List.replicate (1 - (lg_sl ([.ref a0])).length) Slot.unset).toArray = ls at hl ⊢
  have hl : lv_has ls 1 [(0, .ref a0)] := hl
  unfold fX3_init at hf
  have hf := (oi_c hf).2
  show wX3_init p l e s m below meth c G h a0 res 0 0 s.heap ([]) (F0 m 0 ls [])
  refine lv_aload_n hx hb dX3_init_0 rfl (lv_at hl 0 rfl) ?_
  refine W.objInit hx hb hown (hts _ q918) (hts _ q135) (hts _ q136) rfl (by rw [hml]; exact hl.1) rfl dX3_init_1 (Nat.le_of_ble_eq_true rfl) (Nat.le_of_ble_eq_true rfl) ?_
  refine W.eq (g2 := F0 m 4 ls []) rfl ?_
  exact ep_retvR hx hb hr hlocks hw hf dX3_init_4
theorem hdX0_init : yX0_init.cls = RX0 ∧ yX0_init.cls ≠ "java/lang/invoke/MethodHandle" ∧ yX0_init.cls ≠ "java/lang/invoke/VarHandle" ∧ (parseMethodDescriptor yX0_init.desc).map (fun d => d.parameters.length) = some 0 := by decide +kernel
theorem ckX0_init {h : Hp} {a0 : Nat} {res : Hp} (hf : fX0_init h a0 = some res) : ep_cls h a0 = some 0 := by
  unfold fX0_init at hf
  exact (oi_c hf).1
abbrev wX0_init (p : Program) (l : Launch) (e : Env) (s : State) (m : MethodId) (below : List Frame) (meth : Method) (c : Code) (G : EG) (h : Hp) (a0 : Nat) (res : Hp) (k9 n9 : Nat) (H : Heap) (locs : List Loc) (g : JFrame) : Prop := W p l e (headSpec (ws_ yX0_init cX0_init 1 none) ({ frames := 3, cells := 114, slots := 698, locals := 61 } : Room)).room s m ([.ref a0] : List Value).toArray below meth c H locs k9 n9 (MQ below (ep_Qv G ep_cl res) ([.ref a0] : List Value).toArray s 114 698 (ep_A G)) g
set_option maxHeartbeats 4000000 in
theorem metX0_init (l : Launch) (G : EG) (h : Hp) (a0 : Nat) {res : Hp} (hf : fX0_init h a0 = some res) : Met l yX0_init (ws_ yX0_init cX0_init 1 none) ({ frames := 3, cells := 114, slots := 698, locals := 61 } : Room) (ep_Pc G ep_cl h [.ref a0]) (ep_Qv G ep_cl res) 114 698 (ep_A G) := by
  refine Met.ofW (cc := cX0_init) (maxL := 1) (ret := none) (by decide) rfl ?_
  intro p e s m args below meth c s₁ B hml hv
  obtain ⟨rfl, hR, hK, hZ⟩ := hv
  have hx := B.exec
  have hb := B.bytes
  have hr := B.returns
  have hlocks := B.notSynchronized
  have hts := atoms_spec (ws := (ws_ yX0_init cX0_init 1 none)) B.pre
  have hts : ∀ w ∈ lw_all, w.before _ s = true := fun w h => hts w (List.mem_cons_of_mem _ h)
  have hown : s.vm.findClass RX0 = some m.cls := findClass_of_methodNamed B.named
  have hin : meth.name = "<init>" := (name_of_methodNamed B.named B.method).1
  have hw : ep_W G ep_cl h s s.heap [] := ⟨hR, va_S.rf⟩
  have hl := lv_entry ([.ref a0]) (n := 1) (Nat.le_of_ble_eq_true rfl)
  rw [lg_entry_eq]
  generalize (lg_sl ([.ref a0]) ++ List.replicate (1 - (lg_sl ([.ref a0])).length) Slot.unset).toArray = ls at hl ⊢
  have hl : lv_has ls 1 [(0, .ref a0)] := hl
  unfold fX0_init at hf
  have hf := (oi_c hf).2
  show wX0_init p l e s m below meth c G h a0 res 0 0 s.heap ([]) (F0 m 0 ls [])
  refine lv_aload_n hx hb dX0_init_0 rfl (lv_at hl 0 rfl) ?_
  refine W.objInit hx hb hown (hts _ q880) (hts _ q135) (hts _ q136) rfl (by rw [hml]; exact hl.1) rfl dX0_init_1 (Nat.le_of_ble_eq_true rfl) (Nat.le_of_ble_eq_true rfl) ?_
  refine W.eq (g2 := F0 m 4 ls []) rfl ?_
  refine lv_aload_n hx hb dX0_init_4 rfl (lv_at hl 0 rfl) ?_
  refine lv_sipush (v := iI 160) hx hb dX0_init_5 (by decide) ?_
  obtain ⟨h1, eh1, hf⟩ := ob_s hf
  refine ep_newaH 1 160 hx hb hts (atype := .byte) q198 rfl (by decide) rfl (fun _ _ => rfl) hK hw (by decide) (Nat.le_of_ble_eq_true rfl) (Nat.le_of_ble_eq_true rfl) eh1 dX0_init_8 (fun H locs hw => ?_)
  obtain ⟨h2, eh2, hf⟩ := ob_s hf
  refine ep_putF (C := RX0) (T := TX0) (N := 25) (ci := 0) hx hb hts in_X0 tyX0 tyX0_ok nmX0 hown hK hw rfl (by decide) 0 (by decide) q926 rfl hin rfl rfl rfl eh2 dX0_init_10 (fun H locs hw => ?_)
  refine lv_aload_n hx hb dX0_init_13 rfl (lv_at hl 0 rfl) ?_
  obtain ⟨h3, eh3, hf⟩ := ob_s hf
  refine ep_newH (C := RX1) (T := TX1) (N := 11) (ci := 1) hx hb hts in_X1 tyX1 tyX1_ok hown q881 q138 q86 hK hw rfl (by decide) (Nat.le_of_ble_eq_true rfl) (Nat.le_of_ble_eq_true rfl) eh3 dX0_init_14 (fun H locs hw => ?_)
  refine lv_dup hx hb dX0_init_17 rfl ?_
  obtain ⟨o4, eo4, hf⟩ := ob_s hf
  refine ep_callv (va_runIN (As := []) (rest := [.ref h2.1, .ref a0]) ⟨hx, hb, hml, hown, hts⟩ (metX1_init l G h3 h2.1 eo4) ⟨va_cnB 0 hts (lw_meth q141) rfl rfl rfl (hK.nest q882 rfl) (hts _ q86) hdX1_init.2 ⟨Nat.le_of_ble_eq_true rfl, Nat.le_of_ble_eq_true rfl⟩, rfl, hts _ q140⟩ (ep_preS hK hZ hw) rfl rfl hl.1 rfl (lv_room (Nat.le_of_ble_eq_true rfl)) dX0_init_18 ⟨Nat.le_of_ble_eq_true rfl, Nat.le_of_ble_eq_true rfl⟩) hw (fun H locs hw => ?_)
  obtain ⟨h5, eh5, hf⟩ := ob_s hf
  refine ep_putF (C := RX0) (T := TX0) (N := 25) (ci := 0) hx hb hts in_X0 tyX0 tyX0_ok nmX0 hown hK hw rfl (by decide) 3 (by decide) q930 rfl hin rfl rfl rfl eh5 dX0_init_21 (fun H locs hw => ?_)
  refine lv_aload_n hx hb dX0_init_24 rfl (lv_at hl 0 rfl) ?_
  refine lv_iconst (v := iI 4) hx hb dX0_init_25 rfl ?_
  obtain ⟨h6, eh6, hf⟩ := ob_s hf
  refine ep_newqH 6 4 hx hb hts hown q883 hK.2.2.2.1.1 (by decide) rfl hK hw (by decide) (Nat.le_of_ble_eq_true rfl) (Nat.le_of_ble_eq_true rfl) eh6 dX0_init_26 (fun H locs hw => ?_)
  obtain ⟨h7, eh7, hf⟩ := ob_s hf
  refine ep_put (C := RX0) (T := TX0) (N := 25) (ci := 0) hx hb hts in_X0 tyX0 tyX0_ok nmX0 hown hK hw rfl (by decide) 5 (by decide) q932 rfl rfl rfl eh7 dX0_init_29 (fun H locs hw => ?_)
  refine lv_aload_n hx hb dX0_init_32 rfl (lv_at hl 0 rfl) ?_
  obtain ⟨h8, eh8, hf⟩ := ob_s hf
  refine ep_newH (C := RX1) (T := TX1) (N := 11) (ci := 1) hx hb hts in_X1 tyX1 tyX1_ok hown q881 q138 q86 hK hw rfl (by decide) (Nat.le_of_ble_eq_true rfl) (Nat.le_of_ble_eq_true rfl) eh8 dX0_init_33 (fun H locs hw => ?_)
  refine lv_dup hx hb dX0_init_36 rfl ?_
  obtain ⟨o9, eo9, hf⟩ := ob_s hf
  refine ep_callv (va_runIN (As := []) (rest := [.ref h7.1, .ref a0]) ⟨hx, hb, hml, hown, hts⟩ (metX1_init l G h8 h7.1 eo9) ⟨va_cnB 0 hts (lw_meth q141) rfl rfl rfl (hK.nest q882 rfl) (hts _ q86) hdX1_init.2 ⟨Nat.le_of_ble_eq_true rfl, Nat.le_of_ble_eq_true rfl⟩, rfl, hts _ q140⟩ (ep_preS hK hZ hw) rfl rfl hl.1 rfl (lv_room (Nat.le_of_ble_eq_true rfl)) dX0_init_37 ⟨Nat.le_of_ble_eq_true rfl, Nat.le_of_ble_eq_true rfl⟩) hw (fun H locs hw => ?_)
  obtain ⟨h10, eh10, hf⟩ := ob_s hf
  refine ep_putF (C := RX0) (T := TX0) (N := 25) (ci := 0) hx hb hts in_X0 tyX0 tyX0_ok nmX0 hown hK hw rfl (by decide) 7 (by decide) q934 rfl hin rfl rfl rfl eh10 dX0_init_40 (fun H locs hw => ?_)
  refine lv_aload_n hx hb dX0_init_43 rfl (lv_at hl 0 rfl) ?_
  refine lv_iconst (v := iI 4) hx hb dX0_init_44 rfl ?_
  obtain ⟨h11, eh11, hf⟩ := ob_s hf
  refine ep_newaH 0 4 hx hb hts (atype := .int) q199 rfl (by decide) rfl (fun _ _ => rfl) hK hw (by decide) (Nat.le_of_ble_eq_true rfl) (Nat.le_of_ble_eq_true rfl) eh11 dX0_init_45 (fun H locs hw => ?_)
  obtain ⟨h12, eh12, hf⟩ := ob_s hf
  refine ep_putF (C := RX0) (T := TX0) (N := 25) (ci := 0) hx hb hts in_X0 tyX0 tyX0_ok nmX0 hown hK hw rfl (by decide) 8 (by decide) q935 rfl hin rfl rfl rfl eh12 dX0_init_47 (fun H locs hw => ?_)
  refine lv_aload_n hx hb dX0_init_50 rfl (lv_at hl 0 rfl) ?_
  refine lv_iconst (v := iI 4) hx hb dX0_init_51 rfl ?_
  obtain ⟨h13, eh13, hf⟩ := ob_s hf
  refine ep_newaH 0 4 hx hb hts (atype := .int) q199 rfl (by decide) rfl (fun _ _ => rfl) hK hw (by decide) (Nat.le_of_ble_eq_true rfl) (Nat.le_of_ble_eq_true rfl) eh13 dX0_init_52 (fun H locs hw => ?_)
  obtain ⟨h14, eh14, hf⟩ := ob_s hf
  refine ep_putF (C := RX0) (T := TX0) (N := 25) (ci := 0) hx hb hts in_X0 tyX0 tyX0_ok nmX0 hown hK hw rfl (by decide) 9 (by decide) q936 rfl hin rfl rfl rfl eh14 dX0_init_54 (fun H locs hw => ?_)
  refine lv_aload_n hx hb dX0_init_57 rfl (lv_at hl 0 rfl) ?_
  obtain ⟨h15, eh15, hf⟩ := ob_s hf
  refine ep_newH (C := RX1) (T := TX1) (N := 11) (ci := 1) hx hb hts in_X1 tyX1 tyX1_ok hown q881 q138 q86 hK hw rfl (by decide) (Nat.le_of_ble_eq_true rfl) (Nat.le_of_ble_eq_true rfl) eh15 dX0_init_58 (fun H locs hw => ?_)
  refine lv_dup hx hb dX0_init_61 rfl ?_
  obtain ⟨o16, eo16, hf⟩ := ob_s hf
  refine ep_callv (va_runIN (As := []) (rest := [.ref h14.1, .ref a0]) ⟨hx, hb, hml, hown, hts⟩ (metX1_init l G h15 h14.1 eo16) ⟨va_cnB 0 hts (lw_meth q141) rfl rfl rfl (hK.nest q882 rfl) (hts _ q86) hdX1_init.2 ⟨Nat.le_of_ble_eq_true rfl, Nat.le_of_ble_eq_true rfl⟩, rfl, hts _ q140⟩ (ep_preS hK hZ hw) rfl rfl hl.1 rfl (lv_room (Nat.le_of_ble_eq_true rfl)) dX0_init_62 ⟨Nat.le_of_ble_eq_true rfl, Nat.le_of_ble_eq_true rfl⟩) hw (fun H locs hw => ?_)
  obtain ⟨h17, eh17, hf⟩ := ob_s hf
  refine ep_putF (C := RX0) (T := TX0) (N := 25) (ci := 0) hx hb hts in_X0 tyX0 tyX0_ok nmX0 hown hK hw rfl (by decide) 11 (by decide) q938 rfl hin rfl rfl rfl eh17 dX0_init_65 (fun H locs hw => ?_)
  refine lv_aload_n hx hb dX0_init_68 rfl (lv_at hl 0 rfl) ?_
  refine lv_iconst (v := iI 5) hx hb dX0_init_69 rfl ?_
  obtain ⟨h18, eh18, hf⟩ := ob_s hf
  refine ep_newaH 0 5 hx hb hts (atype := .int) q199 rfl (by decide) rfl (fun _ _ => rfl) hK hw (by decide) (Nat.le_of_ble_eq_true rfl) (Nat.le_of_ble_eq_true rfl) eh18 dX0_init_70 (fun H locs hw => ?_)
  obtain ⟨h19, eh19, hf⟩ := ob_s hf
  refine ep_putF (C := RX0) (T := TX0) (N := 25) (ci := 0) hx hb hts in_X0 tyX0 tyX0_ok nmX0 hown hK hw rfl (by decide) 12 (by decide) q939 rfl hin rfl rfl rfl eh19 dX0_init_72 (fun H locs hw => ?_)
  refine lv_aload_n hx hb dX0_init_75 rfl (lv_at hl 0 rfl) ?_
  refine lv_iconst (v := iI 5) hx hb dX0_init_76 rfl ?_
  obtain ⟨h20, eh20, hf⟩ := ob_s hf
  refine ep_newaH 0 5 hx hb hts (atype := .int) q199 rfl (by decide) rfl (fun _ _ => rfl) hK hw (by decide) (Nat.le_of_ble_eq_true rfl) (Nat.le_of_ble_eq_true rfl) eh20 dX0_init_77 (fun H locs hw => ?_)
  obtain ⟨h21, eh21, hf⟩ := ob_s hf
  refine ep_putF (C := RX0) (T := TX0) (N := 25) (ci := 0) hx hb hts in_X0 tyX0 tyX0_ok nmX0 hown hK hw rfl (by decide) 15 (by decide) q942 rfl hin rfl rfl rfl eh21 dX0_init_79 (fun H locs hw => ?_)
  refine lv_aload_n hx hb dX0_init_82 rfl (lv_at hl 0 rfl) ?_
  refine lv_bipush (v := iI 6) hx hb dX0_init_83 (by decide) ?_
  obtain ⟨h22, eh22, hf⟩ := ob_s hf
  refine ep_newaH 0 6 hx hb hts (atype := .int) q199 rfl (by decide) rfl (fun _ _ => rfl) hK hw (by decide) (Nat.le_of_ble_eq_true rfl) (Nat.le_of_ble_eq_true rfl) eh22 dX0_init_85 (fun H locs hw => ?_)
  obtain ⟨h23, eh23, hf⟩ := ob_s hf
  refine ep_putF (C := RX0) (T := TX0) (N := 25) (ci := 0) hx hb hts in_X0 tyX0 tyX0_ok nmX0 hown hK hw rfl (by decide) 16 (by decide) q943 rfl hin rfl rfl rfl eh23 dX0_init_87 (fun H locs hw => ?_)
  refine lv_aload_n hx hb dX0_init_90 rfl (lv_at hl 0 rfl) ?_
  refine lv_bipush (v := iI 6) hx hb dX0_init_91 (by decide) ?_
  refine lv_iconst (v := iI 3) hx hb dX0_init_93 rfl ?_
  obtain ⟨h24, eh24, hf⟩ := ob_s hf
  refine ep_multiH 5 0 6 3 (ty := .int) hx hb hts hown q884 q199 (by decide) (by decide) rfl rfl (fun _ _ => rfl) rfl rfl rfl hK.2.2.2.2.2.1 hK hw (by decide) (by decide) (by decide) (Nat.le_of_ble_eq_true rfl) (Nat.le_of_ble_eq_true rfl) eh24 dX0_init_94 (fun H locs hw => ?_)
  obtain ⟨h25, eh25, hf⟩ := ob_s hf
  refine ep_putF (C := RX0) (T := TX0) (N := 25) (ci := 0) hx hb hts in_X0 tyX0 tyX0_ok nmX0 hown hK hw rfl (by decide) 17 (by decide) q945 rfl hin rfl rfl rfl eh25 dX0_init_98 (fun H locs hw => ?_)
  refine lv_aload_n hx hb dX0_init_101 rfl (lv_at hl 0 rfl) ?_
  refine lv_iconst (v := iI 2) hx hb dX0_init_102 rfl ?_
  obtain ⟨h26, eh26, hf⟩ := ob_s hf
  refine ep_newqH 7 2 hx hb hts hown q886 hK.2.2.2.1.2.1 (by decide) rfl hK hw (by decide) (Nat.le_of_ble_eq_true rfl) (Nat.le_of_ble_eq_true rfl) eh26 dX0_init_103 (fun H locs hw => ?_)
  refine lv_dup hx hb dX0_init_106 rfl ?_
  refine lv_iconst (v := iI 0) hx hb dX0_init_107 rfl ?_
  obtain ⟨h27, eh27, hf⟩ := ob_s hf
  refine ep_newH (C := RX2) (T := TX2) (N := 5) (ci := 2) hx hb hts in_X2 tyX2 tyX2_ok hown q886 q888 q87 hK hw rfl (by decide) (Nat.le_of_ble_eq_true rfl) (Nat.le_of_ble_eq_true rfl) eh27 dX0_init_108 (fun H locs hw => ?_)
  refine lv_dup hx hb dX0_init_111 rfl ?_
  refine lv_aload_n hx hb dX0_init_112 rfl (lv_at hl 0 rfl) ?_
  obtain ⟨o28, eo28, hf⟩ := ob_s hf
  refine ep_callv (va_runIN (As := [.ref a0]) (rest := [.ref h26.1, .int (iI 0), .ref h25.1, .ref h25.1, .ref a0]) ⟨hx, hb, hml, hown, hts⟩ (metX2_init l G h27 h26.1 a0 eo28) ⟨va_cnB 1 hts (lw_meth q891) rfl rfl rfl (hK.nest q889 rfl) (hts _ q87) hdX2_init.2 ⟨Nat.le_of_ble_eq_true rfl, Nat.le_of_ble_eq_true rfl⟩, rfl, hts _ q890⟩ (ep_preS hK hZ hw) rfl rfl hl.1 rfl (lv_room (Nat.le_of_ble_eq_true rfl)) dX0_init_113 ⟨Nat.le_of_ble_eq_true rfl, Nat.le_of_ble_eq_true rfl⟩) hw (fun H locs hw => ?_)
  obtain ⟨h29, eh29, hf⟩ := ob_s hf
  refine ep_aast 7 hx hb (by decide) rfl (ci := 2) rfl hK hw eh29 dX0_init_116 (fun H locs hw => ?_)
  refine lv_dup hx hb dX0_init_117 rfl ?_
  refine lv_iconst (v := iI 1) hx hb dX0_init_118 rfl ?_
  obtain ⟨h30, eh30, hf⟩ := ob_s hf
  refine ep_newH (C := RX2) (T := TX2) (N := 5) (ci := 2) hx hb hts in_X2 tyX2 tyX2_ok hown q886 q888 q87 hK hw rfl (by decide) (Nat.le_of_ble_eq_true rfl) (Nat.le_of_ble_eq_true rfl) eh30 dX0_init_119 (fun H locs hw => ?_)
  refine lv_dup hx hb dX0_init_122 rfl ?_
  refine lv_aload_n hx hb dX0_init_123 rfl (lv_at hl 0 rfl) ?_
  obtain ⟨o31, eo31, hf⟩ := ob_s hf
  refine ep_callv (va_runIN (As := [.ref a0]) (rest := [.ref h29.1, .int (iI 1), .ref h25.1, .ref h25.1, .ref a0]) ⟨hx, hb, hml, hown, hts⟩ (metX2_init l G h30 h29.1 a0 eo31) ⟨va_cnB 1 hts (lw_meth q891) rfl rfl rfl (hK.nest q889 rfl) (hts _ q87) hdX2_init.2 ⟨Nat.le_of_ble_eq_true rfl, Nat.le_of_ble_eq_true rfl⟩, rfl, hts _ q890⟩ (ep_preS hK hZ hw) rfl rfl hl.1 rfl (lv_room (Nat.le_of_ble_eq_true rfl)) dX0_init_124 ⟨Nat.le_of_ble_eq_true rfl, Nat.le_of_ble_eq_true rfl⟩) hw (fun H locs hw => ?_)
  obtain ⟨h32, eh32, hf⟩ := ob_s hf
  refine ep_aast 7 hx hb (by decide) rfl (ci := 2) rfl hK hw eh32 dX0_init_127 (fun H locs hw => ?_)
  obtain ⟨h33, eh33, hf⟩ := ob_s hf
  refine ep_putF (C := RX0) (T := TX0) (N := 25) (ci := 0) hx hb hts in_X0 tyX0 tyX0_ok nmX0 hown hK hw rfl (by decide) 19 (by decide) q948 rfl hin rfl rfl rfl eh33 dX0_init_128 (fun H locs hw => ?_)
  refine lv_aload_n hx hb dX0_init_131 rfl (lv_at hl 0 rfl) ?_
  obtain ⟨h34, eh34, hf⟩ := ob_s hf
  refine ep_newH (C := RX1) (T := TX1) (N := 11) (ci := 1) hx hb hts in_X1 tyX1 tyX1_ok hown q881 q138 q86 hK hw rfl (by decide) (Nat.le_of_ble_eq_true rfl) (Nat.le_of_ble_eq_true rfl) eh34 dX0_init_132 (fun H locs hw => ?_)
  refine lv_dup hx hb dX0_init_135 rfl ?_
  obtain ⟨o35, eo35, hf⟩ := ob_s hf
  refine ep_callv (va_runIN (As := []) (rest := [.ref h33.1, .ref a0]) ⟨hx, hb, hml, hown, hts⟩ (metX1_init l G h34 h33.1 eo35) ⟨va_cnB 0 hts (lw_meth q141) rfl rfl rfl (hK.nest q882 rfl) (hts _ q86) hdX1_init.2 ⟨Nat.le_of_ble_eq_true rfl, Nat.le_of_ble_eq_true rfl⟩, rfl, hts _ q140⟩ (ep_preS hK hZ hw) rfl rfl hl.1 rfl (lv_room (Nat.le_of_ble_eq_true rfl)) dX0_init_136 ⟨Nat.le_of_ble_eq_true rfl, Nat.le_of_ble_eq_true rfl⟩) hw (fun H locs hw => ?_)
  obtain ⟨h36, eh36, hf⟩ := ob_s hf
  refine ep_putF (C := RX0) (T := TX0) (N := 25) (ci := 0) hx hb hts in_X0 tyX0 tyX0_ok nmX0 hown hK hw rfl (by decide) 20 (by decide) q949 rfl hin rfl rfl rfl eh36 dX0_init_139 (fun H locs hw => ?_)
  refine lv_aload_n hx hb dX0_init_142 rfl (lv_at hl 0 rfl) ?_
  refine lv_iconst (v := iI 4) hx hb dX0_init_143 rfl ?_
  obtain ⟨h37, eh37, hf⟩ := ob_s hf
  refine ep_newqH 8 4 hx hb hts hown q912 hK.2.2.2.1.2.2 (by decide) rfl hK hw (by decide) (Nat.le_of_ble_eq_true rfl) (Nat.le_of_ble_eq_true rfl) eh37 dX0_init_144 (fun H locs hw => ?_)
  refine lv_dup hx hb dX0_init_147 rfl ?_
  refine lv_iconst (v := iI 0) hx hb dX0_init_148 rfl ?_
  obtain ⟨h38, eh38, hf⟩ := ob_s hf
  refine ep_newH (C := RX3) (T := TX3) (N := 2) (ci := 3) hx hb hts in_X3 tyX3 tyX3_ok hown q912 q914 q88 hK hw rfl (by decide) (Nat.le_of_ble_eq_true rfl) (Nat.le_of_ble_eq_true rfl) eh38 dX0_init_149 (fun H locs hw => ?_)
  refine lv_dup hx hb dX0_init_152 rfl ?_
  obtain ⟨v39, ev39, hf⟩ := ob_s hf
  refine ep_callv0 (va_runIN (As := []) (rest := [.ref h37.1, .int (iI 0), .ref h36.1, .ref h36.1, .ref a0]) ⟨hx, hb, hml, hown, hts⟩ (metX3_init l G h38 h37.1 ev39) ⟨va_cnB 0 hts (lw_meth q917) rfl rfl rfl (hK.nest q915 rfl) (hts _ q88) hdX3_init.2 ⟨Nat.le_of_ble_eq_true rfl, Nat.le_of_ble_eq_true rfl⟩, rfl, hts _ q916⟩ (ep_preS hK hZ hw) rfl rfl hl.1 rfl (lv_room (Nat.le_of_ble_eq_true rfl)) dX0_init_153 ⟨Nat.le_of_ble_eq_true rfl, Nat.le_of_ble_eq_true rfl⟩) hw (fun H locs hw => ?_)
  obtain ⟨h40, eh40, hf⟩ := ob_s hf
  refine ep_aast 8 hx hb (by decide) rfl (ci := 3) rfl hK hw eh40 dX0_init_156 (fun H locs hw => ?_)
  refine lv_dup hx hb dX0_init_157 rfl ?_
  refine lv_iconst (v := iI 1) hx hb dX0_init_158 rfl ?_
  obtain ⟨h41, eh41, hf⟩ := ob_s hf
  refine ep_newH (C := RX3) (T := TX3) (N := 2) (ci := 3) hx hb hts in_X3 tyX3 tyX3_ok hown q912 q914 q88 hK hw rfl (by decide) (Nat.le_of_ble_eq_true rfl) (Nat.le_of_ble_eq_true rfl) eh41 dX0_init_159 (fun H locs hw => ?_)
  refine lv_dup hx hb dX0_init_162 rfl ?_
  obtain ⟨v42, ev42, hf⟩ := ob_s hf
  refine ep_callv0 (va_runIN (As := []) (rest := [.ref h40.1, .int (iI 1), .ref h36.1, .ref h36.1, .ref a0]) ⟨hx, hb, hml, hown, hts⟩ (metX3_init l G h41 h40.1 ev42) ⟨va_cnB 0 hts (lw_meth q917) rfl rfl rfl (hK.nest q915 rfl) (hts _ q88) hdX3_init.2 ⟨Nat.le_of_ble_eq_true rfl, Nat.le_of_ble_eq_true rfl⟩, rfl, hts _ q916⟩ (ep_preS hK hZ hw) rfl rfl hl.1 rfl (lv_room (Nat.le_of_ble_eq_true rfl)) dX0_init_163 ⟨Nat.le_of_ble_eq_true rfl, Nat.le_of_ble_eq_true rfl⟩) hw (fun H locs hw => ?_)
  obtain ⟨h43, eh43, hf⟩ := ob_s hf
  refine ep_aast 8 hx hb (by decide) rfl (ci := 3) rfl hK hw eh43 dX0_init_166 (fun H locs hw => ?_)
  refine lv_dup hx hb dX0_init_167 rfl ?_
  refine lv_iconst (v := iI 2) hx hb dX0_init_168 rfl ?_
  obtain ⟨h44, eh44, hf⟩ := ob_s hf
  refine ep_newH (C := RX3) (T := TX3) (N := 2) (ci := 3) hx hb hts in_X3 tyX3 tyX3_ok hown q912 q914 q88 hK hw rfl (by decide) (Nat.le_of_ble_eq_true rfl) (Nat.le_of_ble_eq_true rfl) eh44 dX0_init_169 (fun H locs hw => ?_)
  refine lv_dup hx hb dX0_init_172 rfl ?_
  obtain ⟨v45, ev45, hf⟩ := ob_s hf
  refine ep_callv0 (va_runIN (As := []) (rest := [.ref h43.1, .int (iI 2), .ref h36.1, .ref h36.1, .ref a0]) ⟨hx, hb, hml, hown, hts⟩ (metX3_init l G h44 h43.1 ev45) ⟨va_cnB 0 hts (lw_meth q917) rfl rfl rfl (hK.nest q915 rfl) (hts _ q88) hdX3_init.2 ⟨Nat.le_of_ble_eq_true rfl, Nat.le_of_ble_eq_true rfl⟩, rfl, hts _ q916⟩ (ep_preS hK hZ hw) rfl rfl hl.1 rfl (lv_room (Nat.le_of_ble_eq_true rfl)) dX0_init_173 ⟨Nat.le_of_ble_eq_true rfl, Nat.le_of_ble_eq_true rfl⟩) hw (fun H locs hw => ?_)
  obtain ⟨h46, eh46, hf⟩ := ob_s hf
  refine ep_aast 8 hx hb (by decide) rfl (ci := 3) rfl hK hw eh46 dX0_init_176 (fun H locs hw => ?_)
  refine lv_dup hx hb dX0_init_177 rfl ?_
  refine lv_iconst (v := iI 3) hx hb dX0_init_178 rfl ?_
  obtain ⟨h47, eh47, hf⟩ := ob_s hf
  refine ep_newH (C := RX3) (T := TX3) (N := 2) (ci := 3) hx hb hts in_X3 tyX3 tyX3_ok hown q912 q914 q88 hK hw rfl (by decide) (Nat.le_of_ble_eq_true rfl) (Nat.le_of_ble_eq_true rfl) eh47 dX0_init_179 (fun H locs hw => ?_)
  refine lv_dup hx hb dX0_init_182 rfl ?_
  obtain ⟨v48, ev48, hf⟩ := ob_s hf
  refine ep_callv0 (va_runIN (As := []) (rest := [.ref h46.1, .int (iI 3), .ref h36.1, .ref h36.1, .ref a0]) ⟨hx, hb, hml, hown, hts⟩ (metX3_init l G h47 h46.1 ev48) ⟨va_cnB 0 hts (lw_meth q917) rfl rfl rfl (hK.nest q915 rfl) (hts _ q88) hdX3_init.2 ⟨Nat.le_of_ble_eq_true rfl, Nat.le_of_ble_eq_true rfl⟩, rfl, hts _ q916⟩ (ep_preS hK hZ hw) rfl rfl hl.1 rfl (lv_room (Nat.le_of_ble_eq_true rfl)) dX0_init_183 ⟨Nat.le_of_ble_eq_true rfl, Nat.le_of_ble_eq_true rfl⟩) hw (fun H locs hw => ?_)
  obtain ⟨h49, eh49, hf⟩ := ob_s hf
  refine ep_aast 8 hx hb (by decide) rfl (ci := 3) rfl hK hw eh49 dX0_init_186 (fun H locs hw => ?_)
  obtain ⟨h50, eh50, hf⟩ := ob_s hf
  refine ep_putF (C := RX0) (T := TX0) (N := 25) (ci := 0) hx hb hts in_X0 tyX0 tyX0_ok nmX0 hown hK hw rfl (by decide) 21 (by decide) q950 rfl hin rfl rfl rfl eh50 dX0_init_187 (fun H locs hw => ?_)
  exact ep_retvW hx hb hr hlocks hw hf dX0_init_190
theorem hsX0_newRow : yX0_newRow.cls ≠ "java/lang/invoke/MethodHandle" ∧ yX0_newRow.cls ≠ "java/lang/invoke/VarHandle" ∧ (parseMethodDescriptor yX0_newRow.desc).map (fun d => d.parameters.length) = some 2 := by decide +kernel
abbrev wX0_newRow (p : Program) (l : Launch) (e : Env) (s : State) (m : MethodId) (below : List Frame) (meth : Method) (c : Code) (G : EG) (h : Hp) (x0 : Int32) (x1 : Int32) (res : Nat × Hp) (k9 n9 : Nat) (H : Heap) (locs : List Loc) (g : JFrame) : Prop := W p l e (headSpec (ws_ yX0_newRow cX0_newRow 2 (some (.object "java/lang/Object"))) ({ frames := 8, cells := 1, slots := 40, locals := 10300 } : Room)).room s m ([.int x0, .int x1] : List Value).toArray below meth c H locs k9 n9 (MQ below (ep_Qr G ep_cl res.2 res.1) ([.int x0, .int x1] : List Value).toArray s 1 40 (ep_A G)) g
set_option maxHeartbeats 4000000 in
theorem metX0_newRow (l : Launch) (hfl : l.flags = flags0) (G : EG) (h : Hp) (x0 : Int32) (x1 : Int32) {res : Nat × Hp} (hf : fX0_newRow h x0 x1 = some (.inr res)) : Met l yX0_newRow (ws_ yX0_newRow cX0_newRow 2 (some (.object "java/lang/Object"))) ({ frames := 8, cells := 1, slots := 40, locals := 10300 } : Room) (ep_Pc G ep_cl h [.int x0, .int x1]) (ep_Qr G ep_cl res.2 res.1) 1 40 (ep_A G) := by
  refine Met.ofW (cc := cX0_newRow) (maxL := 2) (ret := (some (.object "java/lang/Object"))) (by decide) rfl ?_
  intro p e s m args below meth c s₁ B hml hv
  obtain ⟨rfl, hR, hK, hZ⟩ := hv
  have hx := B.exec
  have hb := B.bytes
  have hr := B.returns
  have hlocks := B.notSynchronized
  have hts := atoms_spec (ws := (ws_ yX0_newRow cX0_newRow 2 (some (.object "java/lang/Object")))) B.pre
  have hts : ∀ w ∈ lw_all, w.before _ s = true := fun w h => hts w (List.mem_cons_of_mem _ h)
  have hown : s.vm.findClass RX0 = some m.cls := findClass_of_methodNamed B.named
  have hw : ep_W G ep_cl h s s.heap [] := ⟨hR, va_S.rf⟩
  have hl := lv_entry ([.int x0, .int x1]) (n := 2) (Nat.le_of_ble_eq_true rfl)
  rw [lg_entry_eq]
  generalize (lg_sl ([.int x0, .int x1]) ++ List.replicate (2 - (lg_sl ([.int x0, .int x1])).length) Slot.unset).toArray = ls at hl ⊢
  have hl : lv_has ls 2 [(0, .int x0), (1, .int x1)] := hl
  unfold fX0_newRow at hf
  show wX0_newRow p l e s m below meth c G h x0 x1 res 0 0 s.heap ([]) (F0 m 0 ls [])
  refine lv_iload_n hx hb dX0_newRow_0 rfl (lv_at hl 0 rfl) ?_
  by_cases c1 : x0 = iI 0
  · have hf := oi_t hf c1
    refine lv_lookup (tgt := 28) hx hb dX0_newRow_1 (by decide) (ep_lk.trans (if_pos c1)) (by decide) ?_
    refine lv_iload_n hx hb dX0_newRow_28 rfl (lv_at hl 1 rfl) ?_
    by_cases c3 : x1 < 0
    · have hf := oi_t hf c3
      cases hf
    · have hf := oi_f hf c3
      obtain ⟨h4, eh4, hf⟩ := ob_s hf
      refine ep_newaH 1 40 hx hb hts (atype := .byte) q198 rfl (by decide) rfl (fun _ _ => rfl) hK hw (by decide) (Nat.le_of_ble_eq_true rfl) (Nat.le_of_ble_eq_true rfl) eh4 dX0_newRow_29 (fun H locs hw => ?_)
      exact ep_retaW hx hb hr (by first | exact Or.inl ⟨_, rfl⟩ | exact Or.inr ⟨_, rfl⟩) hlocks hw (sm_r hf) dX0_newRow_31
  · have hf := oi_f hf c1
    by_cases c2 : x0 = iI 1
    · have hf := oi_t hf c2
      refine lv_lookup (tgt := 32) hx hb dX0_newRow_1 (by decide) (ep_lk.trans ((if_neg c1).trans (if_pos c2))) (by decide) ?_
      refine lv_iload_n hx hb dX0_newRow_32 rfl (lv_at hl 1 rfl) ?_
      by_cases c5 : x1 < 0
      · have hf := oi_t hf c5
        cases hf
      · have hf := oi_f hf c5
        obtain ⟨h6, eh6, hf⟩ := ob_s hf
        refine ep_newaH 2 40 hx hb hts (atype := .short) q1039 rfl (by decide) rfl (fun _ _ => rfl) hK hw (by decide) (Nat.le_of_ble_eq_true rfl) (Nat.le_of_ble_eq_true rfl) eh6 dX0_newRow_33 (fun H locs hw => ?_)
        exact ep_retaW hx hb hr (by first | exact Or.inl ⟨_, rfl⟩ | exact Or.inr ⟨_, rfl⟩) hlocks hw (sm_r hf) dX0_newRow_35
    · have hf := oi_f hf c2
      refine lv_lookup (tgt := 36) hx hb dX0_newRow_1 (by decide) (ep_lk.trans ((if_neg c1).trans (if_neg c2))) (by decide) ?_
      refine lv_iload_n hx hb dX0_newRow_36 rfl (lv_at hl 1 rfl) ?_
      by_cases c7 : x1 < 0
      · have hf := oi_t hf c7
        cases hf
      · have hf := oi_f hf c7
        obtain ⟨h8, eh8, hf⟩ := ob_s hf
        refine ep_newaH 0 40 hx hb hts (atype := .int) q199 rfl (by decide) rfl (fun _ _ => rfl) hK hw (by decide) (Nat.le_of_ble_eq_true rfl) (Nat.le_of_ble_eq_true rfl) eh8 dX0_newRow_37 (fun H locs hw => ?_)
        exact ep_retaW hx hb hr (by first | exact Or.inl ⟨_, rfl⟩ | exact Or.inr ⟨_, rfl⟩) hlocks hw (sm_r hf) dX0_newRow_39
abbrev wTX0_newRow (p : Program) (l : Launch) (e : Env) (s : State) (m : MethodId) (below : List Frame) (meth : Method) (c : Code) (G : EG) (h : Hp) (x0 : Int32) (x1 : Int32) (res : Thr) (k9 n9 : Nat) (H : Heap) (locs : List Loc) (g : JFrame) : Prop := W p l e (headSpec (ws_ yX0_newRow cX0_newRow 2 (some (.object "java/lang/Object"))) ({ frames := 8, cells := 3, slots := 54, locals := 10300 } : Room)).room s m ([.int x0, .int x1] : List Value).toArray below meth c H locs k9 n9 (MQT below (ep_Qt G ep_cl res) ([.int x0, .int x1] : List Value).toArray s 3 54 (ep_A G)) g
set_option maxHeartbeats 4000000 in
theorem metTX0_newRow (l : Launch) (hfl : l.flags = flags0) (G : EG) (h : Hp) (x0 : Int32) (x1 : Int32) {res : Thr} (hf : fX0_newRow h x0 x1 = some (.inl res)) : MetT l yX0_newRow (ws_ yX0_newRow cX0_newRow 2 (some (.object "java/lang/Object"))) ({ frames := 8, cells := 3, slots := 54, locals := 10300 } : Room) (ep_Pc G ep_cl h [.int x0, .int x1]) (ep_Qt G ep_cl res) 3 54 (ep_A G) := by
  refine MetT.ofW (cc := cX0_newRow) (maxL := 2) (ret := (some (.object "java/lang/Object"))) (by decide) rfl ?_
  intro p e s m args below meth c s₁ B hml hv
  obtain ⟨rfl, hR, hK, hZ⟩ := hv
  have hx := B.exec
  have hb := B.bytes
  have hr := B.returns
  have hlocks := B.notSynchronized
  have hts := atoms_spec (ws := (ws_ yX0_newRow cX0_newRow 2 (some (.object "java/lang/Object")))) B.pre
  have hno : c.exceptionTable.toList = [] := by
    have h := B.noHandlers (hts _ List.mem_cons_self)
    simpa using h
  have hts : ∀ w ∈ lw_all, w.before _ s = true := fun w h => hts w (List.mem_cons_of_mem _ h)
  have hown : s.vm.findClass RX0 = some m.cls := findClass_of_methodNamed B.named
  have hw : ep_W G ep_cl h s s.heap [] := ⟨hR, va_S.rf⟩
  have hl := lv_entry ([.int x0, .int x1]) (n := 2) (Nat.le_of_ble_eq_true rfl)
  rw [lg_entry_eq]
  generalize (lg_sl ([.int x0, .int x1]) ++ List.replicate (2 - (lg_sl ([.int x0, .int x1])).length) Slot.unset).toArray = ls at hl ⊢
  have hl : lv_has ls 2 [(0, .int x0), (1, .int x1)] := hl
  unfold fX0_newRow at hf
  show wTX0_newRow p l e s m below meth c G h x0 x1 res 0 0 s.heap ([]) (F0 m 0 ls [])
  refine lv_iload_n hx hb dX0_newRow_0 rfl (lv_at hl 0 rfl) ?_
  by_cases c1 : x0 = iI 0
  · have hf := oi_t hf c1
    refine lv_lookup (tgt := 28) hx hb dX0_newRow_1 (by decide) (ep_lk.trans (if_pos c1)) (by decide) ?_
    refine lv_iload_n hx hb dX0_newRow_28 rfl (lv_at hl 1 rfl) ?_
    by_cases c3 : x1 < 0
    · have hf := oi_t hf c3
      exact ep_vmOut hno hlocks (ep_negA c3 hx hb hfl hts hK hZ hw (hl.1.trans hml.symm) ⟨Nat.le_of_ble_eq_true rfl, Nat.le_of_ble_eq_true rfl⟩ ⟨Nat.le_of_ble_eq_true rfl, Nat.le_of_ble_eq_true rfl⟩ dX0_newRow_29) hw hf
    · have hf := oi_f hf c3
      obtain ⟨h4, eh4, hf⟩ := ob_s hf
      refine ep_newaH 1 40 hx hb hts (atype := .byte) q198 rfl (by decide) rfl (fun _ _ => rfl) hK hw (by decide) (Nat.le_of_ble_eq_true rfl) (Nat.le_of_ble_eq_true rfl) eh4 dX0_newRow_29 (fun H locs hw => ?_)
      cases hf
  · have hf := oi_f hf c1
    by_cases c2 : x0 = iI 1
    · have hf := oi_t hf c2
      refine lv_lookup (tgt := 32) hx hb dX0_newRow_1 (by decide) (ep_lk.trans ((if_neg c1).trans (if_pos c2))) (by decide) ?_
      refine lv_iload_n hx hb dX0_newRow_32 rfl (lv_at hl 1 rfl) ?_
      by_cases c5 : x1 < 0
      · have hf := oi_t hf c5
        exact ep_vmOut hno hlocks (ep_negA c5 hx hb hfl hts hK hZ hw (hl.1.trans hml.symm) ⟨Nat.le_of_ble_eq_true rfl, Nat.le_of_ble_eq_true rfl⟩ ⟨Nat.le_of_ble_eq_true rfl, Nat.le_of_ble_eq_true rfl⟩ dX0_newRow_33) hw hf
      · have hf := oi_f hf c5
        obtain ⟨h6, eh6, hf⟩ := ob_s hf
        refine ep_newaH 2 40 hx hb hts (atype := .short) q1039 rfl (by decide) rfl (fun _ _ => rfl) hK hw (by decide) (Nat.le_of_ble_eq_true rfl) (Nat.le_of_ble_eq_true rfl) eh6 dX0_newRow_33 (fun H locs hw => ?_)
        cases hf
    · have hf := oi_f hf c2
      refine lv_lookup (tgt := 36) hx hb dX0_newRow_1 (by decide) (ep_lk.trans ((if_neg c1).trans (if_neg c2))) (by decide) ?_
      refine lv_iload_n hx hb dX0_newRow_36 rfl (lv_at hl 1 rfl) ?_
      by_cases c7 : x1 < 0
      · have hf := oi_t hf c7
        exact ep_vmOut hno hlocks (ep_negA c7 hx hb hfl hts hK hZ hw (hl.1.trans hml.symm) ⟨Nat.le_of_ble_eq_true rfl, Nat.le_of_ble_eq_true rfl⟩ ⟨Nat.le_of_ble_eq_true rfl, Nat.le_of_ble_eq_true rfl⟩ dX0_newRow_37) hw hf
      · have hf := oi_f hf c7
        obtain ⟨h8, eh8, hf⟩ := ob_s hf
        refine ep_newaH 0 40 hx hb hts (atype := .int) q199 rfl (by decide) rfl (fun _ _ => rfl) hK hw (by decide) (Nat.le_of_ble_eq_true rfl) (Nat.le_of_ble_eq_true rfl) eh8 dX0_newRow_37 (fun H locs hw => ?_)
        cases hf
theorem hdX0_sheet : yX0_sheet.cls = RX0 ∧ yX0_sheet.cls ≠ "java/lang/invoke/MethodHandle" ∧ yX0_sheet.cls ≠ "java/lang/invoke/VarHandle" ∧ (parseMethodDescriptor yX0_sheet.desc).map (fun d => d.parameters.length) = some 3 := by decide +kernel
theorem ckX0_sheet {h : Hp} {a0 : Nat} {x1 : Int32} {x2 : Int32} {x3 : Int32} {res : Int32 × Hp} (hf : fX0_sheet h a0 x1 x2 x3 = some res) : ep_cls h a0 = some 0 := by
  unfold fX0_sheet at hf
  exact (oi_c hf).1
abbrev wX0_sheet (p : Program) (l : Launch) (e : Env) (s : State) (m : MethodId) (below : List Frame) (meth : Method) (c : Code) (G : EG) (h : Hp) (a0 : Nat) (x1 : Int32) (x2 : Int32) (x3 : Int32) (res : Int32 × Hp) (k9 n9 : Nat) (H : Heap) (locs : List Loc) (g : JFrame) : Prop := W p l e (headSpec (wsW_ yX0_sheet cX0_sheet 5 (some .int) [(32, 57, 58, 353)]) ({ frames := 9, cells := 3, slots := 54, locals := 10321 } : Room)).room s m ([.ref a0, .int x1, .int x2, .int x3] : List Value).toArray below meth c H locs k9 n9 (MQ below (ep_Qi G ep_cl res.2 res.1) ([.ref a0, .int x1, .int x2, .int x3] : List Value).toArray s 3 54 (ep_A G)) g
set_option maxHeartbeats 4000000 in
theorem metX0_sheet (l : Launch) (hfl : l.flags = flags0) (G : EG) (h : Hp) (a0 : Nat) (x1 : Int32) (x2 : Int32) (x3 : Int32) {res : Int32 × Hp} (hf : fX0_sheet h a0 x1 x2 x3 = some res) : Met l yX0_sheet (wsW_ yX0_sheet cX0_sheet 5 (some .int) [(32, 57, 58, 353)]) ({ frames := 9, cells := 3, slots := 54, locals := 10321 } : Room) (ep_Pc G ep_cl h [.ref a0, .int x1, .int x2, .int x3]) (ep_Qi G ep_cl res.2 res.1) 3 54 (ep_A G) := by
  refine va_MetW (cc := cX0_sheet) (maxL := 5) (ret := (some .int)) (hh := [(32, 57, 58, 353)]) (by decide) rfl ?_
  intro p e s m args below meth c s₁ B hml hv
  obtain ⟨rfl, hR, hK, hZ⟩ := hv
  have hx := B.exec
  have hb := B.bytes
  have hr := B.returns
  have hlocks := B.notSynchronized
  have hts := atoms_spec (ws := (wsW_ yX0_sheet cX0_sheet 5 (some .int) [(32, 57, 58, 353)])) B.pre
  have htab := ep_tab B (hts _ List.mem_cons_self)
  have hts : ∀ w ∈ lw_all, w.before _ s = true := fun w h => hts w (List.mem_cons_of_mem _ h)
  have hown : s.vm.findClass RX0 = some m.cls := findClass_of_methodNamed B.named
  have hw : ep_W G ep_cl h s s.heap [] := ⟨hR, va_S.rf⟩
  have hl := lv_entry ([.ref a0, .int x1, .int x2, .int x3]) (n := 5) (Nat.le_of_ble_eq_true rfl)
  rw [lg_entry_eq]
  generalize (lg_sl ([.ref a0, .int x1, .int x2, .int x3]) ++ List.replicate (5 - (lg_sl ([.ref a0, .int x1, .int x2, .int x3])).length) Slot.unset).toArray = ls at hl ⊢
  have hl : lv_has ls 5 [(0, .ref a0), (1, .int x1), (2, .int x2), (3, .int x3)] := hl
  unfold fX0_sheet at hf
  have hf := (oi_c hf).2
  show wX0_sheet p l e s m below meth c G h a0 x1 x2 x3 res 0 0 s.heap ([]) (F0 m 0 ls [])
  refine lv_iload_n hx hb dX0_sheet_0 rfl (lv_at hl 1 rfl) ?_
  refine lv_i2l (v := x1.toInt64) hx hb dX0_sheet_1 rfl ?_
  refine lv_lconst (v := lI 0) hx hb dX0_sheet_2 (by decide) ?_
  refine lv_ldc2 (v := (3 : Int64)) hx hb hown (hts _ q650) dX0_sheet_3 ?_
  obtain ⟨v1, ev1, hf⟩ := ob_s hf
  refine ep_calli0 (va_runS (As := [.long x1.toInt64, .long (lI 0), .long (3 : Int64)]) (rest := []) ⟨hx, hb, hml, hown, hts⟩ (metX0_isIn l G h x1.toInt64 (lI 0) (3 : Int64) ev1) (va_cwS 3 hts (lw_S q114 q115 q85 q116) rfl rfl rfl hsX0_isIn ⟨Nat.le_of_ble_eq_true rfl, Nat.le_of_ble_eq_true rfl⟩) (ep_preS hK hZ hw) rfl rfl hl.1 rfl (lv_room (Nat.le_of_ble_eq_true rfl)) dX0_sheet_6 ⟨Nat.le_of_ble_eq_true rfl, Nat.le_of_ble_eq_true rfl⟩) hw (fun H locs hw => ?_)
  refine lv_if_eq (tgt := 30) hx hb dX0_sheet_9 (by decide) (fun c2 => ?_) (fun c2 => ?_)
  · have hf := oi_t hf c2
    refine lv_iconst (v := iI (-1)) hx hb dX0_sheet_30 rfl ?_
    refine W.widen (k := 3) (n := 54) (Nat.le_of_ble_eq_true rfl) (Nat.le_of_ble_eq_true rfl) ?_
    exact ep_retiW hx hb hr hlocks hw hf dX0_sheet_31
  · have hf := oi_f hf c2
    refine lv_iload_n hx hb dX0_sheet_12 rfl (lv_at hl 2 rfl) ?_
    refine lv_i2l (v := x2.toInt64) hx hb dX0_sheet_13 rfl ?_
    refine lv_lconst (v := lI 0) hx hb dX0_sheet_14 (by decide) ?_
    refine lv_ldc2 (v := (2 : Int64)) hx hb hown (hts _ q570) dX0_sheet_15 ?_
    obtain ⟨v3, ev3, hf⟩ := ob_s hf
    refine ep_calli0 (va_runS (As := [.long x2.toInt64, .long (lI 0), .long (2 : Int64)]) (rest := []) ⟨hx, hb, hml, hown, hts⟩ (metX0_isIn l G h x2.toInt64 (lI 0) (2 : Int64) ev3) (va_cwS 3 hts (lw_S q114 q115 q85 q116) rfl rfl rfl hsX0_isIn ⟨Nat.le_of_ble_eq_true rfl, Nat.le_of_ble_eq_true rfl⟩) (ep_preS hK hZ hw) rfl rfl hl.1 rfl (lv_room (Nat.le_of_ble_eq_true rfl)) dX0_sheet_18 ⟨Nat.le_of_ble_eq_true rfl, Nat.le_of_ble_eq_true rfl⟩) hw (fun H locs hw => ?_)
    refine lv_if_eq (tgt := 30) hx hb dX0_sheet_21 (by decide) (fun c4 => ?_) (fun c4 => ?_)
    · have hf := oi_t hf c4
      refine lv_iconst (v := iI (-1)) hx hb dX0_sheet_30 rfl ?_
      refine W.widen (k := 3) (n := 54) (Nat.le_of_ble_eq_true rfl) (Nat.le_of_ble_eq_true rfl) ?_
      exact ep_retiW hx hb hr hlocks hw hf dX0_sheet_31
    · have hf := oi_f hf c4
      refine lv_iload_n hx hb dX0_sheet_24 rfl (lv_at hl 3 rfl) ?_
      refine lv_bipush (v := iI 40) hx hb dX0_sheet_25 (by decide) ?_
      refine lv_icmp_le (tgt := 32) hx hb dX0_sheet_27 (by decide) (fun c5 => ?_) (fun c5 => ?_)
      · have hf := oi_t hf c5
        refine lv_aload_n hx hb dX0_sheet_32 rfl (lv_at hl 0 rfl) ?_
        obtain ⟨r6, er6, hf⟩ := ob_s hf
        refine ep_get (C := RX0) (T := TX0) (N := 25) (ci := 0) hx hb hts in_X0 hown hK hw rfl 21 (by decide) q950 (gR_f er6) dX0_sheet_33 ?_
        refine lv_iload_n hx hb dX0_sheet_36 rfl (lv_at hl 1 rfl) ?_
        obtain ⟨v7, ev7, hf⟩ := ob_s hf
        refine ep_aald 8 (by decide) rfl hx hb hK hw ev7 dX0_sheet_37 ?_
        refine lv_iload_n hx hb dX0_sheet_38 rfl (lv_at hl 2 rfl) ?_
        refine lv_iload_n hx hb dX0_sheet_39 rfl (lv_at hl 3 rfl) ?_
        obtain ⟨zo8, eo8, hko8⟩ := orL_s hf
        rcases zo8 with xo8 | o8
        · have hf := orL_1 hko8 rfl
          obtain ⟨hxo8_4, hf⟩ := oi_c hf
          refine ep_catchT (hpc := 58) hown (ep_runST (As := [.int x2, .int x3]) (rest := [.ref v7]) ⟨hx, hb, hml, hown, hts⟩ (metTX0_newRow l hfl G h x2 x3 eo8) (va_cwS 2 hts (lw_S q1036 q1037 q85 q1038) rfl rfl rfl hsX0_newRow ⟨Nat.le_of_ble_eq_true rfl, Nat.le_of_ble_eq_true rfl⟩) (ep_preS hK hZ hw) rfl rfl hl.1 rfl (lv_room (Nat.le_of_ble_eq_true rfl)) dX0_sheet_40 ⟨Nat.le_of_ble_eq_true rfl, Nat.le_of_ble_eq_true rfl⟩) hw (by rw [hxo8_4]; exact ep_cat1 (kind := 4) htab (by decide) (by decide) (hts _ q1009)) (fun H locs hw => ?_)
          refine lv_astore (lv' := [(4, .ref xo8.2.1), (0, .ref a0), (1, .int x1), (2, .int x2), (3, .int x3)]) hx hb dX0_sheet_58 hl (by decide) rfl (fun ls hl => ?_)
          refine lv_bipush (v := iI (-14)) hx hb dX0_sheet_60 (by decide) ?_
          exact ep_retiW hx hb hr hlocks hw hf dX0_sheet_62
        have hf := orL_2 hko8 rfl
        refine ep_callr (va_runS (As := [.int x2, .int x3]) (rest := [.ref v7]) ⟨hx, hb, hml, hown, hts⟩ (metX0_newRow l hfl G h x2 x3 eo8) (va_cwS 2 hts (lw_S q1036 q1037 q85 q1038) rfl rfl rfl hsX0_newRow ⟨Nat.le_of_ble_eq_true rfl, Nat.le_of_ble_eq_true rfl⟩) (ep_preS hK hZ hw) rfl rfl hl.1 rfl (lv_room (Nat.le_of_ble_eq_true rfl)) dX0_sheet_40 ⟨Nat.le_of_ble_eq_true rfl, Nat.le_of_ble_eq_true rfl⟩) hw (fun H locs hw => ?_)
        obtain ⟨h9, eh9, hf⟩ := ob_s hf
        refine ep_putN (C := RX3) (T := TX3) (N := 2) (ci := 3) hx hb hts in_X3 tyX3 tyX3_ok nmX3 hown hK hw rfl (by decide) 0 (by decide) q919 rfl rfl rfl eh9 dX0_sheet_43 (fun H locs hw => ?_)
        refine lv_aload_n hx hb dX0_sheet_46 rfl (lv_at hl 0 rfl) ?_
        obtain ⟨r10, er10, hf⟩ := ob_s hf
        refine ep_get (C := RX0) (T := TX0) (N := 25) (ci := 0) hx hb hts in_X0 hown hK hw rfl 21 (by decide) q950 (gR_f er10) dX0_sheet_47 ?_
        refine lv_iload_n hx hb dX0_sheet_50 rfl (lv_at hl 1 rfl) ?_
        obtain ⟨v11, ev11, hf⟩ := ob_s hf
        refine ep_aald 8 (by decide) rfl hx hb hK hw ev11 dX0_sheet_51 ?_
        refine lv_iload_n hx hb dX0_sheet_52 rfl (lv_at hl 3 rfl) ?_
        obtain ⟨h12, eh12, hf⟩ := ob_s hf
        refine ep_putN (C := RX3) (T := TX3) (N := 2) (ci := 3) hx hb hts in_X3 tyX3 tyX3_ok nmX3 hown hK hw rfl (by decide) 1 (by decide) q920 rfl rfl rfl eh12 dX0_sheet_53 (fun H locs hw => ?_)
        refine lv_iconst (v := iI 1) hx hb dX0_sheet_56 rfl ?_
        refine W.widen (k := 3) (n := 54) (Nat.le_of_ble_eq_true rfl) (Nat.le_of_ble_eq_true rfl) ?_
        exact ep_retiW hx hb hr hlocks hw hf dX0_sheet_57
      · have hf := oi_f hf c5
        refine lv_iconst (v := iI (-1)) hx hb dX0_sheet_30 rfl ?_
        refine W.widen (k := 3) (n := 54) (Nat.le_of_ble_eq_true rfl) (Nat.le_of_ble_eq_true rfl) ?_
        exact ep_retiW hx hb hr hlocks hw hf dX0_sheet_31
theorem hdX0_lay : yX0_lay.cls = RX0 ∧ yX0_lay.cls ≠ "java/lang/invoke/MethodHandle" ∧ yX0_lay.cls ≠ "java/lang/invoke/VarHandle" ∧ (parseMethodDescriptor yX0_lay.desc).map (fun d => d.parameters.length) = some 3 := by decide +kernel
theorem ckX0_lay {h : Hp} {a0 : Nat} {x1 : Int32} {x2 : Int32} {x3 : Int32} {res : Int32 × Hp} (hf : fX0_lay h a0 x1 x2 x3 = some res) : ep_cls h a0 = some 0 := by
  unfold fX0_lay at hf
  exact (oi_c hf).1
abbrev wX0_lay (p : Program) (l : Launch) (e : Env) (s : State) (m : MethodId) (below : List Frame) (meth : Method) (c : Code) (G : EG) (h : Hp) (a0 : Nat) (x1 : Int32) (x2 : Int32) (x3 : Int32) (res : Int32 × Hp) (k9 n9 : Nat) (H : Heap) (locs : List Loc) (g : JFrame) : Prop := W p l e (headSpec (wsW_ yX0_lay cX0_lay 6 (some .int) [(25, 74, 75, 359), (25, 74, 80, 361)]) ({ frames := 8, cells := 3, slots := 222, locals := 10300 } : Room)).room s m ([.ref a0, .int x1, .int x2, .int x3] : List Value).toArray below meth c H locs k9 n9 (MQ below (ep_Qi G ep_cl res.2 res.1) ([.ref a0, .int x1, .int x2, .int x3] : List Value).toArray s 3 222 (ep_A G)) g
set_option maxHeartbeats 4000000 in
theorem metX0_lay (l : Launch) (hfl : l.flags = flags0) (G : EG) (h : Hp) (a0 : Nat) (x1 : Int32) (x2 : Int32) (x3 : Int32) {res : Int32 × Hp} (hf : fX0_lay h a0 x1 x2 x3 = some res) : Met l yX0_lay (wsW_ yX0_lay cX0_lay 6 (some .int) [(25, 74, 75, 359), (25, 74, 80, 361)]) ({ frames := 8, cells := 3, slots := 222, locals := 10300 } : Room) (ep_Pc G ep_cl h [.ref a0, .int x1, .int x2, .int x3]) (ep_Qi G ep_cl res.2 res.1) 3 222 (ep_A G) := by
  refine va_MetW (cc := cX0_lay) (maxL := 6) (ret := (some .int)) (hh := [(25, 74, 75, 359), (25, 74, 80, 361)]) (by decide) rfl ?_
  intro p e s m args below meth c s₁ B hml hv
  obtain ⟨rfl, hR, hK, hZ⟩ := hv
  have hx := B.exec
  have hb := B.bytes
  have hr := B.returns
  have hlocks := B.notSynchronized
  have hts := atoms_spec (ws := (wsW_ yX0_lay cX0_lay 6 (some .int) [(25, 74, 75, 359), (25, 74, 80, 361)])) B.pre
  have htab := ep_tab B (hts _ List.mem_cons_self)
  have hts : ∀ w ∈ lw_all, w.before _ s = true := fun w h => hts w (List.mem_cons_of_mem _ h)
  have hown : s.vm.findClass RX0 = some m.cls := findClass_of_methodNamed B.named
  have hw : ep_W G ep_cl h s s.heap [] := ⟨hR, va_S.rf⟩
  have hl := lv_entry ([.ref a0, .int x1, .int x2, .int x3]) (n := 6) (Nat.le_of_ble_eq_true rfl)
  rw [lg_entry_eq]
  generalize (lg_sl ([.ref a0, .int x1, .int x2, .int x3]) ++ List.replicate (6 - (lg_sl ([.ref a0, .int x1, .int x2, .int x3])).length) Slot.unset).toArray = ls at hl ⊢
  have hl : lv_has ls 6 [(0, .ref a0), (1, .int x1), (2, .int x2), (3, .int x3)] := hl
  unfold fX0_lay at hf
  have hf := (oi_c hf).2
  show wX0_lay p l e s m below meth c G h a0 x1 x2 x3 res 0 0 s.heap ([]) (F0 m 0 ls [])
  refine lv_iload_n hx hb dX0_lay_0 rfl (lv_at hl 1 rfl) ?_
  refine lv_i2l (v := x1.toInt64) hx hb dX0_lay_1 rfl ?_
  refine lv_lconst (v := lI 0) hx hb dX0_lay_2 (by decide) ?_
  refine lv_ldc2 (v := (3 : Int64)) hx hb hown (hts _ q650) dX0_lay_3 ?_
  obtain ⟨v1, ev1, hf⟩ := ob_s hf
  refine ep_calli0 (va_runS (As := [.long x1.toInt64, .long (lI 0), .long (3 : Int64)]) (rest := []) ⟨hx, hb, hml, hown, hts⟩ (metX0_isIn l G h x1.toInt64 (lI 0) (3 : Int64) ev1) (va_cwS 3 hts (lw_S q114 q115 q85 q116) rfl rfl rfl hsX0_isIn ⟨Nat.le_of_ble_eq_true rfl, Nat.le_of_ble_eq_true rfl⟩) (ep_preS hK hZ hw) rfl rfl hl.1 rfl (lv_room (Nat.le_of_ble_eq_true rfl)) dX0_lay_6 ⟨Nat.le_of_ble_eq_true rfl, Nat.le_of_ble_eq_true rfl⟩) hw (fun H locs hw => ?_)
  refine lv_if_ne (tgt := 14) hx hb dX0_lay_9 (by decide) (fun c2 => ?_) (fun c2 => ?_)
  · have hf := oi_f hf c2
    refine lv_aload_n hx hb dX0_lay_14 rfl (lv_at hl 0 rfl) ?_
    obtain ⟨r3, er3, hf⟩ := ob_s hf
    refine ep_get (C := RX0) (T := TX0) (N := 25) (ci := 0) hx hb hts in_X0 hown hK hw rfl 21 (by decide) q950 (gR_f er3) dX0_lay_15 ?_
    refine lv_iload_n hx hb dX0_lay_18 rfl (lv_at hl 1 rfl) ?_
    obtain ⟨v4, ev4, hf⟩ := ob_s hf
    refine ep_aald 8 (by decide) rfl hx hb hK hw ev4 dX0_lay_19 ?_
    obtain ⟨q5, eq5, hf⟩ := ob_s hf
    rcases q5 with _ | r6
    · unfold nsp at hf
      refine ep_getN (C := RX3) (T := TX3) (N := 2) (ci := 3) hx hb hts in_X3 hown hK hw rfl 0 (by decide) q919 (gQ_f eq5) dX0_lay_20 ?_
      refine lv_astoreN (lv' := [(4, .null), (0, .ref a0), (1, .int x1), (2, .int x2), (3, .int x3)]) hx hb dX0_lay_23 hl (by decide) rfl (fun ls hl => ?_)
      refine lv_aloadN hx hb dX0_lay_25 (lv_at hl 0 rfl) ?_
      refine lv_instN hx hb dX0_lay_27 ?_
      refine lv_if_eq (tgt := 45) hx hb dX0_lay_30 (by decide) (fun c7 => ?_) (fun c7 => ?_)
      · have hf := oi_t hf c7
        refine lv_aloadN hx hb dX0_lay_45 (lv_at hl 0 rfl) ?_
        refine lv_instN hx hb dX0_lay_47 ?_
        refine lv_if_eq (tgt := 65) hx hb dX0_lay_50 (by decide) (fun c8 => ?_) (fun c8 => ?_)
        · have hf := oi_t hf c8
          refine lv_aloadN hx hb dX0_lay_65 (lv_at hl 0 rfl) ?_
          refine lv_castN hx hb dX0_lay_67 ?_
          refine lv_iload_n hx hb dX0_lay_70 rfl (lv_at hl 3 rfl) ?_
          refine lv_iload_n hx hb dX0_lay_71 rfl (lv_at hl 4 rfl) ?_
          refine ep_catchVm (hpc := 75) hown (ep_nul_iastore hx hb hfl hts hK hZ hw (hl.1.trans hml.symm) ⟨Nat.le_of_ble_eq_true rfl, Nat.le_of_ble_eq_true rfl⟩ ⟨Nat.le_of_ble_eq_true rfl, Nat.le_of_ble_eq_true rfl⟩ dX0_lay_72) hw (ep_cat2a (kind := 1) htab (by decide) (by decide) (hts _ q1044)) (fun H locs hw => ?_)
          refine lv_astore (lv' := [(5, .ref (h.1 + 0)), (4, .null), (0, .ref a0), (1, .int x1), (2, .int x2), (3, .int x3)]) hx hb dX0_lay_75 hl (by decide) rfl (fun ls hl => ?_)
          refine lv_bipush (v := iI (-11)) hx hb dX0_lay_77 (by decide) ?_
          refine W.widen (k := 3) (n := 222) (Nat.le_of_ble_eq_true rfl) (Nat.le_of_ble_eq_true rfl) ?_
          exact ep_retiW hx hb hr hlocks hw hf dX0_lay_79
        · have hf := oi_f hf c8
          refine lv_aloadN hx hb dX0_lay_53 (lv_at hl 0 rfl) ?_
          refine lv_castN hx hb dX0_lay_55 ?_
          refine lv_iload_n hx hb dX0_lay_58 rfl (lv_at hl 3 rfl) ?_
          refine lv_iload_n hx hb dX0_lay_59 rfl (lv_at hl 4 rfl) ?_
          refine lv_i2s (v := x3.toInt16.toInt32) hx hb dX0_lay_60 rfl ?_
          refine ep_catchVm (hpc := 75) hown (ep_nul_sastore hx hb hfl hts hK hZ hw (hl.1.trans hml.symm) ⟨Nat.le_of_ble_eq_true rfl, Nat.le_of_ble_eq_true rfl⟩ ⟨Nat.le_of_ble_eq_true rfl, Nat.le_of_ble_eq_true rfl⟩ dX0_lay_61) hw (ep_cat2a (kind := 1) htab (by decide) (by decide) (hts _ q1044)) (fun H locs hw => ?_)
          refine lv_astore (lv' := [(5, .ref (h.1 + 0)), (4, .null), (0, .ref a0), (1, .int x1), (2, .int x2), (3, .int x3)]) hx hb dX0_lay_75 hl (by decide) rfl (fun ls hl => ?_)
          refine lv_bipush (v := iI (-11)) hx hb dX0_lay_77 (by decide) ?_
          refine W.widen (k := 3) (n := 222) (Nat.le_of_ble_eq_true rfl) (Nat.le_of_ble_eq_true rfl) ?_
          exact ep_retiW hx hb hr hlocks hw hf dX0_lay_79
      · have hf := oi_f hf c7
        refine lv_aloadN hx hb dX0_lay_33 (lv_at hl 0 rfl) ?_
        refine lv_castN hx hb dX0_lay_35 ?_
        refine lv_iload_n hx hb dX0_lay_38 rfl (lv_at hl 3 rfl) ?_
        refine lv_iload_n hx hb dX0_lay_39 rfl (lv_at hl 4 rfl) ?_
        refine lv_i2b (v := x3.toInt8.toInt32) hx hb dX0_lay_40 rfl ?_
        refine ep_catchVm (hpc := 75) hown (ep_nul_bastore hx hb hfl hts hK hZ hw (hl.1.trans hml.symm) ⟨Nat.le_of_ble_eq_true rfl, Nat.le_of_ble_eq_true rfl⟩ ⟨Nat.le_of_ble_eq_true rfl, Nat.le_of_ble_eq_true rfl⟩ dX0_lay_41) hw (ep_cat2a (kind := 1) htab (by decide) (by decide) (hts _ q1044)) (fun H locs hw => ?_)
        refine lv_astore (lv' := [(5, .ref (h.1 + 0)), (4, .null), (0, .ref a0), (1, .int x1), (2, .int x2), (3, .int x3)]) hx hb dX0_lay_75 hl (by decide) rfl (fun ls hl => ?_)
        refine lv_bipush (v := iI (-11)) hx hb dX0_lay_77 (by decide) ?_
        refine W.widen (k := 3) (n := 222) (Nat.le_of_ble_eq_true rfl) (Nat.le_of_ble_eq_true rfl) ?_
        exact ep_retiW hx hb hr hlocks hw hf dX0_lay_79
    · unfold nsp at hf
      refine ep_getN (C := RX3) (T := TX3) (N := 2) (ci := 3) hx hb hts in_X3 hown hK hw rfl 0 (by decide) q919 (gQ_f eq5) dX0_lay_20 ?_
      refine lv_astore (lv' := [(4, .ref r6), (0, .ref a0), (1, .int x1), (2, .int x2), (3, .int x3)]) hx hb dX0_lay_23 hl (by decide) rfl (fun ls hl => ?_)
      refine lv_aload hx hb dX0_lay_25 (lv_at hl 0 rfl) ?_
      obtain ⟨t9, et9, hf⟩ := ob_s hf
      refine ep_inst 1 (by decide) hx hb hown (hts _ q1088) hK hw et9 dX0_lay_27 ?_
      refine lv_if_eq (tgt := 45) hx hb dX0_lay_30 (by decide) (fun c10 => ?_) (fun c10 => ?_)
      · have hf := oi_t hf c10
        refine lv_aload hx hb dX0_lay_45 (lv_at hl 0 rfl) ?_
        obtain ⟨t11, et11, hf⟩ := ob_s hf
        refine ep_inst 2 (by decide) hx hb hown (hts _ q1089) hK hw et11 dX0_lay_47 ?_
        refine lv_if_eq (tgt := 65) hx hb dX0_lay_50 (by decide) (fun c12 => ?_) (fun c12 => ?_)
        · have hf := oi_t hf c12
          refine lv_aload hx hb dX0_lay_65 (lv_at hl 0 rfl) ?_
          obtain ⟨u13, eu13, hf⟩ := ob_s hf
          refine ep_castA 0 hx hb hown (hts _ q1090) hK hw (ckT_s eu13) dX0_lay_67 ?_
          refine lv_iload_n hx hb dX0_lay_70 rfl (lv_at hl 3 rfl) ?_
          refine lv_iload_n hx hb dX0_lay_71 rfl (lv_at hl 4 rfl) ?_
          obtain ⟨b14, eb14, hf⟩ := ob_s hf
          by_cases c15 : b14 = true
          · have hf := oi_t hf c15
            obtain ⟨h16, eh16, hf⟩ := ob_s hf
            refine ep_iast hx hb hK hw eh16 dX0_lay_72 (fun H locs hw => ?_)
            refine lv_iconst (v := iI 1) hx hb dX0_lay_73 rfl ?_
            refine W.widen (k := 3) (n := 222) (Nat.le_of_ble_eq_true rfl) (Nat.le_of_ble_eq_true rfl) ?_
            exact ep_retiW hx hb hr hlocks hw hf dX0_lay_74
          · have hf := oi_f hf c15
            refine ep_catchVm (hpc := 80) hown (ep_idx_iastore hx hb hfl hts hK hZ hw (eb14.trans (congrArg some (Bool.eq_false_iff.mpr c15))) (hl.1.trans hml.symm) ⟨Nat.le_of_ble_eq_true rfl, Nat.le_of_ble_eq_true rfl⟩ ⟨Nat.le_of_ble_eq_true rfl, Nat.le_of_ble_eq_true rfl⟩ dX0_lay_72) hw (ep_cat2b (kind := 2) htab (by decide) (by decide) (hts _ q1044) (hK.2.2.2.2.2.2 ("java/lang/ArrayIndexOutOfBoundsException", "java/lang/NullPointerException") (List.mem_of_getElem? (i := 6) rfl)) (hts _ q1069)) (fun H locs hw => ?_)
            refine lv_astore (lv' := [(5, .ref (h.1 + 2)), (4, .ref r6), (0, .ref a0), (1, .int x1), (2, .int x2), (3, .int x3)]) hx hb dX0_lay_80 hl (by decide) rfl (fun ls hl => ?_)
            refine lv_bipush (v := iI (-12)) hx hb dX0_lay_82 (by decide) ?_
            exact ep_retiW hx hb hr hlocks hw hf dX0_lay_84
        · have hf := oi_f hf c12
          refine lv_aload hx hb dX0_lay_53 (lv_at hl 0 rfl) ?_
          obtain ⟨u17, eu17, hf⟩ := ob_s hf
          refine ep_castA 2 hx hb hown (hts _ q1089) hK hw (ckT_s eu17) dX0_lay_55 ?_
          refine lv_iload_n hx hb dX0_lay_58 rfl (lv_at hl 3 rfl) ?_
          refine lv_iload_n hx hb dX0_lay_59 rfl (lv_at hl 4 rfl) ?_
          refine lv_i2s (v := x3.toInt16.toInt32) hx hb dX0_lay_60 rfl ?_
          obtain ⟨b18, eb18, hf⟩ := ob_s hf
          by_cases c19 : b18 = true
          · have hf := oi_t hf c19
            obtain ⟨h20, eh20, hf⟩ := ob_s hf
            refine ep_sast hx hb hK hw eh20 dX0_lay_61 (fun H locs hw => ?_)
            refine lv_goto (tgt := 73) hx hb dX0_lay_62 (by decide) ?_
            refine lv_iconst (v := iI 1) hx hb dX0_lay_73 rfl ?_
            refine W.widen (k := 3) (n := 222) (Nat.le_of_ble_eq_true rfl) (Nat.le_of_ble_eq_true rfl) ?_
            exact ep_retiW hx hb hr hlocks hw hf dX0_lay_74
          · have hf := oi_f hf c19
            refine ep_catchVm (hpc := 80) hown (ep_idx_sastore hx hb hfl hts hK hZ hw (eb18.trans (congrArg some (Bool.eq_false_iff.mpr c19))) (hl.1.trans hml.symm) ⟨Nat.le_of_ble_eq_true rfl, Nat.le_of_ble_eq_true rfl⟩ ⟨Nat.le_of_ble_eq_true rfl, Nat.le_of_ble_eq_true rfl⟩ dX0_lay_61) hw (ep_cat2b (kind := 2) htab (by decide) (by decide) (hts _ q1044) (hK.2.2.2.2.2.2 ("java/lang/ArrayIndexOutOfBoundsException", "java/lang/NullPointerException") (List.mem_of_getElem? (i := 6) rfl)) (hts _ q1069)) (fun H locs hw => ?_)
            refine lv_astore (lv' := [(5, .ref (h.1 + 2)), (4, .ref r6), (0, .ref a0), (1, .int x1), (2, .int x2), (3, .int x3)]) hx hb dX0_lay_80 hl (by decide) rfl (fun ls hl => ?_)
            refine lv_bipush (v := iI (-12)) hx hb dX0_lay_82 (by decide) ?_
            exact ep_retiW hx hb hr hlocks hw hf dX0_lay_84
      · have hf := oi_f hf c10
        refine lv_aload hx hb dX0_lay_33 (lv_at hl 0 rfl) ?_
        obtain ⟨u21, eu21, hf⟩ := ob_s hf
        refine ep_castA 1 hx hb hown (hts _ q1088) hK hw (ckT_s eu21) dX0_lay_35 ?_
        refine lv_iload_n hx hb dX0_lay_38 rfl (lv_at hl 3 rfl) ?_
        refine lv_iload_n hx hb dX0_lay_39 rfl (lv_at hl 4 rfl) ?_
        refine lv_i2b (v := x3.toInt8.toInt32) hx hb dX0_lay_40 rfl ?_
        obtain ⟨b22, eb22, hf⟩ := ob_s hf
        by_cases c23 : b22 = true
        · have hf := oi_t hf c23
          obtain ⟨h24, eh24, hf⟩ := ob_s hf
          refine ep_bast hx hb hK hw eh24 dX0_lay_41 (fun H locs hw => ?_)
          refine lv_goto (tgt := 73) hx hb dX0_lay_42 (by decide) ?_
          refine lv_iconst (v := iI 1) hx hb dX0_lay_73 rfl ?_
          refine W.widen (k := 3) (n := 222) (Nat.le_of_ble_eq_true rfl) (Nat.le_of_ble_eq_true rfl) ?_
          exact ep_retiW hx hb hr hlocks hw hf dX0_lay_74
        · have hf := oi_f hf c23
          refine ep_catchVm (hpc := 80) hown (ep_idx_bastore hx hb hfl hts hK hZ hw (eb22.trans (congrArg some (Bool.eq_false_iff.mpr c23))) (hl.1.trans hml.symm) ⟨Nat.le_of_ble_eq_true rfl, Nat.le_of_ble_eq_true rfl⟩ ⟨Nat.le_of_ble_eq_true rfl, Nat.le_of_ble_eq_true rfl⟩ dX0_lay_41) hw (ep_cat2b (kind := 2) htab (by decide) (by decide) (hts _ q1044) (hK.2.2.2.2.2.2 ("java/lang/ArrayIndexOutOfBoundsException", "java/lang/NullPointerException") (List.mem_of_getElem? (i := 6) rfl)) (hts _ q1069)) (fun H locs hw => ?_)
          refine lv_astore (lv' := [(5, .ref (h.1 + 2)), (4, .ref r6), (0, .ref a0), (1, .int x1), (2, .int x2), (3, .int x3)]) hx hb dX0_lay_80 hl (by decide) rfl (fun ls hl => ?_)
          refine lv_bipush (v := iI (-12)) hx hb dX0_lay_82 (by decide) ?_
          exact ep_retiW hx hb hr hlocks hw hf dX0_lay_84
  · have hf := oi_t hf c2
    refine lv_iconst (v := iI (-1)) hx hb dX0_lay_12 rfl ?_
    refine W.widen (k := 3) (n := 222) (Nat.le_of_ble_eq_true rfl) (Nat.le_of_ble_eq_true rfl) ?_
    exact ep_retiW hx hb hr hlocks hw hf dX0_lay_13
theorem hsX0_cell : yX0_cell.cls ≠ "java/lang/invoke/MethodHandle" ∧ yX0_cell.cls ≠ "java/lang/invoke/VarHandle" ∧ (parseMethodDescriptor yX0_cell.desc).map (fun d => d.parameters.length) = some 3 := by decide +kernel
abbrev wX0_cell (p : Program) (l : Launch) (e : Env) (s : State) (m : MethodId) (below : List Frame) (meth : Method) (c : Code) (G : EG) (h : Hp) (a0 : Nat) (x1 : Int32) (x2 : Int32) (res : Int32 × Hp) (k9 n9 : Nat) (H : Heap) (locs : List Loc) (g : JFrame) : Prop := W p l e (headSpec (ws_ yX0_cell cX0_cell 3 (some .int)) ({ frames := 8, cells := 0, slots := 0, locals := 10300 } : Room)).room s m ([.ref a0, .int x1, .int x2] : List Value).toArray below meth c H locs k9 n9 (MQ below (ep_Qi G ep_cl res.2 res.1) ([.ref a0, .int x1, .int x2] : List Value).toArray s 0 0 (ep_A G)) g
set_option maxHeartbeats 4000000 in
theorem metX0_cell (l : Launch) (hfl : l.flags = flags0) (G : EG) (h : Hp) (a0 : Nat) (x1 : Int32) (x2 : Int32) {res : Int32 × Hp} (hf : fX0_cell h a0 x1 x2 = some (.inr res)) : Met l yX0_cell (ws_ yX0_cell cX0_cell 3 (some .int)) ({ frames := 8, cells := 0, slots := 0, locals := 10300 } : Room) (ep_Pc G ep_cl h [.ref a0, .int x1, .int x2]) (ep_Qi G ep_cl res.2 res.1) 0 0 (ep_A G) := by
  refine Met.ofW (cc := cX0_cell) (maxL := 3) (ret := (some .int)) (by decide) rfl ?_
  intro p e s m args below meth c s₁ B hml hv
  obtain ⟨rfl, hR, hK, hZ⟩ := hv
  have hx := B.exec
  have hb := B.bytes
  have hr := B.returns
  have hlocks := B.notSynchronized
  have hts := atoms_spec (ws := (ws_ yX0_cell cX0_cell 3 (some .int))) B.pre
  have hts : ∀ w ∈ lw_all, w.before _ s = true := fun w h => hts w (List.mem_cons_of_mem _ h)
  have hown : s.vm.findClass RX0 = some m.cls := findClass_of_methodNamed B.named
  have hw : ep_W G ep_cl h s s.heap [] := ⟨hR, va_S.rf⟩
  have hl := lv_entry ([.ref a0, .int x1, .int x2]) (n := 3) (Nat.le_of_ble_eq_true rfl)
  rw [lg_entry_eq]
  generalize (lg_sl ([.ref a0, .int x1, .int x2]) ++ List.replicate (3 - (lg_sl ([.ref a0, .int x1, .int x2])).length) Slot.unset).toArray = ls at hl ⊢
  have hl : lv_has ls 3 [(0, .ref a0), (1, .int x1), (2, .int x2)] := hl
  unfold fX0_cell at hf
  show wX0_cell p l e s m below meth c G h a0 x1 x2 res 0 0 s.heap ([]) (F0 m 0 ls [])
  refine lv_iload_n hx hb dX0_cell_0 rfl (lv_at hl 1 rfl) ?_
  refine lv_if_ne (tgt := 13) hx hb dX0_cell_1 (by decide) (fun c1 => ?_) (fun c1 => ?_)
  · have hf := oi_f hf c1
    refine lv_iload_n hx hb dX0_cell_13 rfl (lv_at hl 1 rfl) ?_
    refine lv_iconst (v := iI 1) hx hb dX0_cell_14 rfl ?_
    refine lv_icmp_ne (tgt := 27) hx hb dX0_cell_15 (by decide) (fun c2 => ?_) (fun c2 => ?_)
    · have hf := oi_f hf c2
      refine lv_aload_n hx hb dX0_cell_27 rfl (lv_at hl 0 rfl) ?_
      obtain ⟨t3, et3, hf⟩ := ob_s hf
      by_cases c4 : t3 = 0
      · have hf := oi_t hf c4
        refine ep_castA 0 hx hb hown (hts _ q1090) hK hw (et3.trans (congrArg some c4)) dX0_cell_28 ?_
        refine lv_iload_n hx hb dX0_cell_31 rfl (lv_at hl 2 rfl) ?_
        obtain ⟨b5, eb5, hf⟩ := ob_s hf
        by_cases c6 : b5 = true
        · have hf := oi_t hf c6
          obtain ⟨v7, ev7, hf⟩ := ob_s hf
          refine ep_iald hx hb hK hw ev7 dX0_cell_32 ?_
          exact ep_retiW hx hb hr hlocks hw (sm_r hf) dX0_cell_33
        · have hf := oi_f hf c6
          cases hf
      · have hf := oi_f hf c4
        cases hf
    · have hf := oi_t hf c2
      refine lv_aload_n hx hb dX0_cell_18 rfl (lv_at hl 0 rfl) ?_
      obtain ⟨t8, et8, hf⟩ := ob_s hf
      by_cases c9 : t8 = 2
      · have hf := oi_t hf c9
        refine ep_castA 2 hx hb hown (hts _ q1089) hK hw (et8.trans (congrArg some c9)) dX0_cell_19 ?_
        refine lv_iload_n hx hb dX0_cell_22 rfl (lv_at hl 2 rfl) ?_
        obtain ⟨b10, eb10, hf⟩ := ob_s hf
        by_cases c11 : b10 = true
        · have hf := oi_t hf c11
          obtain ⟨v12, ev12, hf⟩ := ob_s hf
          refine ep_sald hx hb hK hw ev12 dX0_cell_23 ?_
          refine lv_goto (tgt := 33) hx hb dX0_cell_24 (by decide) ?_
          exact ep_retiW hx hb hr hlocks hw (sm_r hf) dX0_cell_33
        · have hf := oi_f hf c11
          cases hf
      · have hf := oi_f hf c9
        cases hf
  · have hf := oi_t hf c1
    refine lv_aload_n hx hb dX0_cell_4 rfl (lv_at hl 0 rfl) ?_
    obtain ⟨t13, et13, hf⟩ := ob_s hf
    by_cases c14 : t13 = 1
    · have hf := oi_t hf c14
      refine ep_castA 1 hx hb hown (hts _ q1088) hK hw (et13.trans (congrArg some c14)) dX0_cell_5 ?_
      refine lv_iload_n hx hb dX0_cell_8 rfl (lv_at hl 2 rfl) ?_
      obtain ⟨b15, eb15, hf⟩ := ob_s hf
      by_cases c16 : b15 = true
      · have hf := oi_t hf c16
        obtain ⟨v17, ev17, hf⟩ := ob_s hf
        refine ep_bald 1 (by decide) rfl hx hb hK hw ev17 dX0_cell_9 ?_
        refine lv_goto (tgt := 33) hx hb dX0_cell_10 (by decide) ?_
        exact ep_retiW hx hb hr hlocks hw (sm_r hf) dX0_cell_33
      · have hf := oi_f hf c16
        cases hf
    · have hf := oi_f hf c14
      cases hf
abbrev wTX0_cell (p : Program) (l : Launch) (e : Env) (s : State) (m : MethodId) (below : List Frame) (meth : Method) (c : Code) (G : EG) (h : Hp) (a0 : Nat) (x1 : Int32) (x2 : Int32) (res : Thr) (k9 n9 : Nat) (H : Heap) (locs : List Loc) (g : JFrame) : Prop := W p l e (headSpec (ws_ yX0_cell cX0_cell 3 (some .int)) ({ frames := 8, cells := 3, slots := 222, locals := 10300 } : Room)).room s m ([.ref a0, .int x1, .int x2] : List Value).toArray below meth c H locs k9 n9 (MQT below (ep_Qt G ep_cl res) ([.ref a0, .int x1, .int x2] : List Value).toArray s 3 222 (ep_A G)) g
set_option maxHeartbeats 4000000 in
theorem metTX0_cell (l : Launch) (hfl : l.flags = flags0) (G : EG) (h : Hp) (a0 : Nat) (x1 : Int32) (x2 : Int32) {res : Thr} (hf : fX0_cell h a0 x1 x2 = some (.inl res)) : MetT l yX0_cell (ws_ yX0_cell cX0_cell 3 (some .int)) ({ frames := 8, cells := 3, slots := 222, locals := 10300 } : Room) (ep_Pc G ep_cl h [.ref a0, .int x1, .int x2]) (ep_Qt G ep_cl res) 3 222 (ep_A G) := by
  refine MetT.ofW (cc := cX0_cell) (maxL := 3) (ret := (some .int)) (by decide) rfl ?_
  intro p e s m args below meth c s₁ B hml hv
  obtain ⟨rfl, hR, hK, hZ⟩ := hv
  have hx := B.exec
  have hb := B.bytes
  have hr := B.returns
  have hlocks := B.notSynchronized
  have hts := atoms_spec (ws := (ws_ yX0_cell cX0_cell 3 (some .int))) B.pre
  have hno : c.exceptionTable.toList = [] := by
    have h := B.noHandlers (hts _ List.mem_cons_self)
    simpa using h
  have hts : ∀ w ∈ lw_all, w.before _ s = true := fun w h => hts w (List.mem_cons_of_mem _ h)
  have hown : s.vm.findClass RX0 = some m.cls := findClass_of_methodNamed B.named
  have hw : ep_W G ep_cl h s s.heap [] := ⟨hR, va_S.rf⟩
  have hl := lv_entry ([.ref a0, .int x1, .int x2]) (n := 3) (Nat.le_of_ble_eq_true rfl)
  rw [lg_entry_eq]
  generalize (lg_sl ([.ref a0, .int x1, .int x2]) ++ List.replicate (3 - (lg_sl ([.ref a0, .int x1, .int x2])).length) Slot.unset).toArray = ls at hl ⊢
  have hl : lv_has ls 3 [(0, .ref a0), (1, .int x1), (2, .int x2)] := hl
  unfold fX0_cell at hf
  show wTX0_cell p l e s m below meth c G h a0 x1 x2 res 0 0 s.heap ([]) (F0 m 0 ls [])
  refine lv_iload_n hx hb dX0_cell_0 rfl (lv_at hl 1 rfl) ?_
  refine lv_if_ne (tgt := 13) hx hb dX0_cell_1 (by decide) (fun c1 => ?_) (fun c1 => ?_)
  · have hf := oi_f hf c1
    refine lv_iload_n hx hb dX0_cell_13 rfl (lv_at hl 1 rfl) ?_
    refine lv_iconst (v := iI 1) hx hb dX0_cell_14 rfl ?_
    refine lv_icmp_ne (tgt := 27) hx hb dX0_cell_15 (by decide) (fun c2 => ?_) (fun c2 => ?_)
    · have hf := oi_f hf c2
      refine lv_aload_n hx hb dX0_cell_27 rfl (lv_at hl 0 rfl) ?_
      obtain ⟨t3, et3, hf⟩ := ob_s hf
      by_cases c4 : t3 = 0
      · have hf := oi_t hf c4
        refine ep_castA 0 hx hb hown (hts _ q1090) hK hw (et3.trans (congrArg some c4)) dX0_cell_28 ?_
        refine lv_iload_n hx hb dX0_cell_31 rfl (lv_at hl 2 rfl) ?_
        obtain ⟨b5, eb5, hf⟩ := ob_s hf
        by_cases c6 : b5 = true
        · have hf := oi_t hf c6
          obtain ⟨v7, ev7, hf⟩ := ob_s hf
          refine ep_iald hx hb hK hw ev7 dX0_cell_32 ?_
          cases hf
        · have hf := oi_f hf c6
          exact ep_vmOut hno hlocks (ep_idx_iaload hx hb hfl hts hK hZ hw (eb5.trans (congrArg some (Bool.eq_false_iff.mpr c6))) (hl.1.trans hml.symm) ⟨Nat.le_of_ble_eq_true rfl, Nat.le_of_ble_eq_true rfl⟩ ⟨Nat.le_of_ble_eq_true rfl, Nat.le_of_ble_eq_true rfl⟩ dX0_cell_32) hw hf
      · have hf := oi_f hf c4
        refine W.widen (k := 0) (n := 12) (Nat.le_of_ble_eq_true rfl) (Nat.le_of_ble_eq_true rfl) ?_
        exact ep_vmOut hno hlocks (ep_vmCast 0 (by decide) hx hb hfl hts hown (hts _ q1090) hK hZ hw et3 c4 (hl.1.trans hml.symm) ⟨Nat.le_of_ble_eq_true rfl, Nat.le_of_ble_eq_true rfl⟩ (Nat.le_of_ble_eq_true rfl) ⟨Nat.le_of_ble_eq_true rfl, Nat.le_of_ble_eq_true rfl⟩ dX0_cell_28) hw hf
    · have hf := oi_t hf c2
      refine lv_aload_n hx hb dX0_cell_18 rfl (lv_at hl 0 rfl) ?_
      obtain ⟨t8, et8, hf⟩ := ob_s hf
      by_cases c9 : t8 = 2
      · have hf := oi_t hf c9
        refine ep_castA 2 hx hb hown (hts _ q1089) hK hw (et8.trans (congrArg some c9)) dX0_cell_19 ?_
        refine lv_iload_n hx hb dX0_cell_22 rfl (lv_at hl 2 rfl) ?_
        obtain ⟨b10, eb10, hf⟩ := ob_s hf
        by_cases c11 : b10 = true
        · have hf := oi_t hf c11
          obtain ⟨v12, ev12, hf⟩ := ob_s hf
          refine ep_sald hx hb hK hw ev12 dX0_cell_23 ?_
          refine lv_goto (tgt := 33) hx hb dX0_cell_24 (by decide) ?_
          cases hf
        · have hf := oi_f hf c11
          exact ep_vmOut hno hlocks (ep_idx_saload hx hb hfl hts hK hZ hw (eb10.trans (congrArg some (Bool.eq_false_iff.mpr c11))) (hl.1.trans hml.symm) ⟨Nat.le_of_ble_eq_true rfl, Nat.le_of_ble_eq_true rfl⟩ ⟨Nat.le_of_ble_eq_true rfl, Nat.le_of_ble_eq_true rfl⟩ dX0_cell_23) hw hf
      · have hf := oi_f hf c9
        refine W.widen (k := 0) (n := 12) (Nat.le_of_ble_eq_true rfl) (Nat.le_of_ble_eq_true rfl) ?_
        exact ep_vmOut hno hlocks (ep_vmCast 2 (by decide) hx hb hfl hts hown (hts _ q1089) hK hZ hw et8 c9 (hl.1.trans hml.symm) ⟨Nat.le_of_ble_eq_true rfl, Nat.le_of_ble_eq_true rfl⟩ (Nat.le_of_ble_eq_true rfl) ⟨Nat.le_of_ble_eq_true rfl, Nat.le_of_ble_eq_true rfl⟩ dX0_cell_19) hw hf
  · have hf := oi_t hf c1
    refine lv_aload_n hx hb dX0_cell_4 rfl (lv_at hl 0 rfl) ?_
    obtain ⟨t13, et13, hf⟩ := ob_s hf
    by_cases c14 : t13 = 1
    · have hf := oi_t hf c14
      refine ep_castA 1 hx hb hown (hts _ q1088) hK hw (et13.trans (congrArg some c14)) dX0_cell_5 ?_
      refine lv_iload_n hx hb dX0_cell_8 rfl (lv_at hl 2 rfl) ?_
      obtain ⟨b15, eb15, hf⟩ := ob_s hf
      by_cases c16 : b15 = true
      · have hf := oi_t hf c16
        obtain ⟨v17, ev17, hf⟩ := ob_s hf
        refine ep_bald 1 (by decide) rfl hx hb hK hw ev17 dX0_cell_9 ?_
        refine lv_goto (tgt := 33) hx hb dX0_cell_10 (by decide) ?_
        cases hf
      · have hf := oi_f hf c16
        exact ep_vmOut hno hlocks (ep_idx_baload hx hb hfl hts hK hZ hw (eb15.trans (congrArg some (Bool.eq_false_iff.mpr c16))) (hl.1.trans hml.symm) ⟨Nat.le_of_ble_eq_true rfl, Nat.le_of_ble_eq_true rfl⟩ ⟨Nat.le_of_ble_eq_true rfl, Nat.le_of_ble_eq_true rfl⟩ dX0_cell_9) hw hf
    · have hf := oi_f hf c14
      refine W.widen (k := 0) (n := 12) (Nat.le_of_ble_eq_true rfl) (Nat.le_of_ble_eq_true rfl) ?_
      exact ep_vmOut hno hlocks (ep_vmCast 1 (by decide) hx hb hfl hts hown (hts _ q1088) hK hZ hw et13 c14 (hl.1.trans hml.symm) ⟨Nat.le_of_ble_eq_true rfl, Nat.le_of_ble_eq_true rfl⟩ (Nat.le_of_ble_eq_true rfl) ⟨Nat.le_of_ble_eq_true rfl, Nat.le_of_ble_eq_true rfl⟩ dX0_cell_5) hw hf
theorem hdX0_takesIn : yX0_takesIn.cls = RX0 ∧ yX0_takesIn.cls ≠ "java/lang/invoke/MethodHandle" ∧ yX0_takesIn.cls ≠ "java/lang/invoke/VarHandle" ∧ (parseMethodDescriptor yX0_takesIn.desc).map (fun d => d.parameters.length) = some 4 := by decide +kernel
theorem ckX0_takesIn {h : Hp} {a0 : Nat} {a1 : Nat} {x2 : Int32} {x3 : Int32} {x4 : Int32} {res : Int32 × Hp} (hf : fX0_takesIn h a0 a1 x2 x3 x4 = some res) : ep_cls h a0 = some 0 := by
  unfold fX0_takesIn at hf
  exact (oi_c hf).1
abbrev wX0_takesIn (p : Program) (l : Launch) (e : Env) (s : State) (m : MethodId) (below : List Frame) (meth : Method) (c : Code) (G : EG) (h : Hp) (a0 : Nat) (a1 : Nat) (x2 : Int32) (x3 : Int32) (x4 : Int32) (res : Int32 × Hp) (k9 n9 : Nat) (H : Heap) (locs : List Loc) (g : JFrame) : Prop := W p l e (headSpec (wsW_ yX0_takesIn cX0_takesIn 8 (some .int) [(10, 107, 108, 359), (10, 107, 112, 373), (10, 107, 116, 361)]) ({ frames := 9, cells := 3, slots := 222, locals := 10322 } : Room)).room s m ([.ref a0, .ref a1, .int x2, .int x3, .int x4] : List Value).toArray below meth c H locs k9 n9 (MQ below (ep_Qi G ep_cl res.2 res.1) ([.ref a0, .ref a1, .int x2, .int x3, .int x4] : List Value).toArray s 3 222 (ep_A G)) g
set_option maxHeartbeats 4000000 in
theorem metX0_takesIn (l : Launch) (hfl : l.flags = flags0) (G : EG) (h : Hp) (a0 : Nat) (a1 : Nat) (x2 : Int32) (x3 : Int32) (x4 : Int32) {res : Int32 × Hp} (hf : fX0_takesIn h a0 a1 x2 x3 x4 = some res) : Met l yX0_takesIn (wsW_ yX0_takesIn cX0_takesIn 8 (some .int) [(10, 107, 108, 359), (10, 107, 112, 373), (10, 107, 116, 361)]) ({ frames := 9, cells := 3, slots := 222, locals := 10322 } : Room) (ep_Pc G ep_cl h [.ref a0, .ref a1, .int x2, .int x3, .int x4]) (ep_Qi G ep_cl res.2 res.1) 3 222 (ep_A G) := by
  refine va_MetW (cc := cX0_takesIn) (maxL := 8) (ret := (some .int)) (hh := [(10, 107, 108, 359), (10, 107, 112, 373), (10, 107, 116, 361)]) (by decide) rfl ?_
  intro p e s m args below meth c s₁ B hml hv
  obtain ⟨rfl, hR, hK, hZ⟩ := hv
  have hx := B.exec
  have hb := B.bytes
  have hr := B.returns
  have hlocks := B.notSynchronized
  have hts := atoms_spec (ws := (wsW_ yX0_takesIn cX0_takesIn 8 (some .int) [(10, 107, 108, 359), (10, 107, 112, 373), (10, 107, 116, 361)])) B.pre
  have htab := ep_tab B (hts _ List.mem_cons_self)
  have hts : ∀ w ∈ lw_all, w.before _ s = true := fun w h => hts w (List.mem_cons_of_mem _ h)
  have hown : s.vm.findClass RX0 = some m.cls := findClass_of_methodNamed B.named
  have hw : ep_W G ep_cl h s s.heap [] := ⟨hR, va_S.rf⟩
  have hl := lv_entry ([.ref a0, .ref a1, .int x2, .int x3, .int x4]) (n := 8) (Nat.le_of_ble_eq_true rfl)
  rw [lg_entry_eq]
  generalize (lg_sl ([.ref a0, .ref a1, .int x2, .int x3, .int x4]) ++ List.replicate (8 - (lg_sl ([.ref a0, .ref a1, .int x2, .int x3, .int x4])).length) Slot.unset).toArray = ls at hl ⊢
  have hl : lv_has ls 8 [(0, .ref a0), (1, .ref a1), (2, .int x2), (3, .int x3), (4, .int x4)] := hl
  unfold fX0_takesIn at hf
  have hf := (oi_c hf).2
  show wX0_takesIn p l e s m below meth c G h a0 a1 x2 x3 x4 res 0 0 s.heap ([]) (F0 m 0 ls [])
  refine lv_aload_n hx hb dX0_takesIn_0 rfl (lv_at hl 0 rfl) ?_
  refine lv_iconst (v := iI 0) hx hb dX0_takesIn_1 rfl ?_
  obtain ⟨h1, eh1, hf⟩ := ob_s hf
  refine ep_put (C := RX0) (T := TX0) (N := 25) (ci := 0) hx hb hts in_X0 tyX0 tyX0_ok nmX0 hown hK hw rfl (by decide) 23 (by decide) q952 rfl rfl rfl eh1 dX0_takesIn_2 (fun H locs hw => ?_)
  refine lv_aload_n hx hb dX0_takesIn_5 rfl (lv_at hl 0 rfl) ?_
  refine lv_iconst (v := iI 0) hx hb dX0_takesIn_6 rfl ?_
  obtain ⟨h2, eh2, hf⟩ := ob_s hf
  refine ep_put (C := RX0) (T := TX0) (N := 25) (ci := 0) hx hb hts in_X0 tyX0 tyX0_ok nmX0 hown hK hw rfl (by decide) 24 (by decide) q953 rfl rfl rfl eh2 dX0_takesIn_7 (fun H locs hw => ?_)
  obtain ⟨ox3, ho3, hk3⟩ := orL_s hf
  have hT3 : ∀ r, ox3 = .inl r → some r = some res := fun r eo => (by have e := orL_1 hk3 eo; exact e)
  have hJ3 : ∀ o3, ox3 = .inr o3 → ∀ (H : Heap) (locs : List Loc) (ls : Array Slot), ep_W G ep_cl o3 s H locs → lv_has ls 8 [] → wX0_takesIn p l e s m below meth c G h a0 a1 x2 x3 x4 res 0 0 H locs (F0 m 106 ls []) := by
    intro o3 eo H locs ls hw hl
    have hf := orL_2 hk3 eo
    refine lv_iconst (v := iI 0) hx hb dX0_takesIn_106 rfl ?_
    refine W.widen (k := 3) (n := 222) (Nat.le_of_ble_eq_true rfl) (Nat.le_of_ble_eq_true rfl) ?_
    exact ep_retiW hx hb hr hlocks hw hf dX0_takesIn_107
  have hL3 : ∀ (fu : Nat) (h : Hp), fX0_takesIn_L10 a0 a1 x2 x3 x4 fu h = some ox3 → ∀ (H : Heap) (locs : List Loc) (ls : Array Slot), ep_W G ep_cl h s H locs → lv_has ls 8 [(0, .ref a0), (1, .ref a1), (2, .int x2), (3, .int x3), (4, .int x4)] → wX0_takesIn p l e s m below meth c G h a0 a1 x2 x3 x4 res 0 0 H locs (F0 m 10 ls []) := by
    intro fu
    induction fu with
    | zero => intro h ho3; cases ho3
    | succ fu ih3 =>
      intro h ho3 H locs ls hw hl
      rw [fX0_takesIn_L10] at ho3
      refine lv_aload_n hx hb dX0_takesIn_10 rfl (lv_at hl 0 rfl) ?_
      obtain ⟨v4, ev4, ho3⟩ := ob_s ho3
      refine ep_get (C := RX0) (T := TX0) (N := 25) (ci := 0) hx hb hts in_X0 hown hK hw rfl 23 (by decide) q952 (gI_f ev4) dX0_takesIn_11 ?_
      refine lv_iload hx hb dX0_takesIn_14 (lv_at hl 4 rfl) ?_
      refine lv_icmp_ge (tgt := 106) hx hb dX0_takesIn_16 (by decide) (fun c5 => ?_) (fun c5 => ?_)
      · have ho3 := oi_t ho3 c5
        exact hJ3 _ (Option.some.inj ho3).symm _ _ _ hw (lv_sub hl [] rfl)
      · have ho3 := oi_f ho3 c5
        refine lv_aload_n hx hb dX0_takesIn_19 rfl (lv_at hl 0 rfl) ?_
        obtain ⟨v6, ev6, ho3⟩ := ob_s ho3
        refine ep_get (C := RX0) (T := TX0) (N := 25) (ci := 0) hx hb hts in_X0 hown hK hw rfl 24 (by decide) q953 (gI_f ev6) dX0_takesIn_20 ?_
        refine lv_if_ne (tgt := 106) hx hb dX0_takesIn_23 (by decide) (fun c7 => ?_) (fun c7 => ?_)
        · have ho3 := oi_f ho3 c7
          exact hJ3 _ (Option.some.inj ho3).symm _ _ _ hw (lv_sub hl [] rfl)
        · have ho3 := oi_t ho3 c7
          refine lv_iload_n hx hb dX0_takesIn_26 rfl (lv_at hl 3 rfl) ?_
          refine lv_iconst (v := iI 2) hx hb dX0_takesIn_27 rfl ?_
          refine lv_aload_n hx hb dX0_takesIn_28 rfl (lv_at hl 0 rfl) ?_
          obtain ⟨v8, ev8, ho3⟩ := ob_s ho3
          refine ep_get (C := RX0) (T := TX0) (N := 25) (ci := 0) hx hb hts in_X0 hown hK hw rfl 23 (by decide) q952 (gI_f ev8) dX0_takesIn_29 ?_
          refine lv_imul hx hb dX0_takesIn_32 ?_
          refine lv_iadd hx hb dX0_takesIn_33 ?_
          refine lv_istore (lv' := [(5, .int (x3 + ((iI 2) * v8))), (0, .ref a0), (1, .ref a1), (2, .int x2), (3, .int x3), (4, .int x4)]) hx hb dX0_takesIn_34 hl (by decide) rfl (fun ls hl => ?_)
          refine lv_aload_n hx hb dX0_takesIn_36 rfl (lv_at hl 2 rfl) ?_
          refine lv_iload_n hx hb dX0_takesIn_37 rfl (lv_at hl 3 rfl) ?_
          refine lv_iload hx hb dX0_takesIn_38 (lv_at hl 0 rfl) ?_
          obtain ⟨zo9, eo9, hko9⟩ := orL_s ho3
          rcases zo9 with xo9 | o9
          · have ho3 := orL_1 hko9 rfl
            by_cases hxo9_1 : xo9.1 = 1
            · have ho3 := oi_t ho3 hxo9_1
              refine ep_catchT (hpc := 108) hown (ep_runST (As := [.ref a1, .int x2, .int (x3 + ((iI 2) * v8))]) (rest := []) ⟨hx, hb, hml, hown, hts⟩ (metTX0_cell l hfl G h a1 x2 (x3 + ((iI 2) * v8)) eo9) (va_cwS 3 hts (lw_S q1114 q1115 q85 q1116) rfl rfl rfl hsX0_cell ⟨Nat.le_of_ble_eq_true rfl, Nat.le_of_ble_eq_true rfl⟩) (ep_preS hK hZ hw) rfl rfl hl.1 rfl (lv_room (Nat.le_of_ble_eq_true rfl)) dX0_takesIn_40 ⟨Nat.le_of_ble_eq_true rfl, Nat.le_of_ble_eq_true rfl⟩) hw (by rw [hxo9_1]; exact ep_cat2a (kind := 1) htab (by decide) (by decide) (hts _ q1044)) (fun H locs hw => ?_)
              refine lv_astore (lv' := [(5, .ref xo9.2.1), (0, .ref a0), (1, .ref a1), (2, .int x2), (3, .int x3), (4, .int x4)]) hx hb dX0_takesIn_108 hl (by decide) rfl (fun ls hl => ?_)
              refine lv_iconst (v := iI 1) hx hb dX0_takesIn_110 rfl ?_
              exact ep_retiW hx hb hr hlocks hw (hT3 _ (Option.some.inj ho3).symm) dX0_takesIn_111
            have ho3 := oi_f ho3 hxo9_1
            by_cases hxo9_3 : xo9.1 = 3
            · have ho3 := oi_t ho3 hxo9_3
              refine ep_catchT (hpc := 112) hown (ep_runST (As := [.ref a1, .int x2, .int (x3 + ((iI 2) * v8))]) (rest := []) ⟨hx, hb, hml, hown, hts⟩ (metTX0_cell l hfl G h a1 x2 (x3 + ((iI 2) * v8)) eo9) (va_cwS 3 hts (lw_S q1114 q1115 q85 q1116) rfl rfl rfl hsX0_cell ⟨Nat.le_of_ble_eq_true rfl, Nat.le_of_ble_eq_true rfl⟩) (ep_preS hK hZ hw) rfl rfl hl.1 rfl (lv_room (Nat.le_of_ble_eq_true rfl)) dX0_takesIn_40 ⟨Nat.le_of_ble_eq_true rfl, Nat.le_of_ble_eq_true rfl⟩) hw (by rw [hxo9_3]; exact ep_cat2b (kind := 3) htab (by decide) (by decide) (hts _ q1044) (hK.2.2.2.2.2.2 ("java/lang/ClassCastException", "java/lang/NullPointerException") (List.mem_of_getElem? (i := 8) rfl)) (hts _ q1100)) (fun H locs hw => ?_)
              refine lv_astore (lv' := [(5, .ref xo9.2.1), (0, .ref a0), (1, .ref a1), (2, .int x2), (3, .int x3), (4, .int x4)]) hx hb dX0_takesIn_112 hl (by decide) rfl (fun ls hl => ?_)
              refine lv_iconst (v := iI 3) hx hb dX0_takesIn_114 rfl ?_
              exact ep_retiW hx hb hr hlocks hw (hT3 _ (Option.some.inj ho3).symm) dX0_takesIn_115
            have ho3 := oi_f ho3 hxo9_3
            obtain ⟨hxo9_2, ho3⟩ := oi_c ho3
            refine ep_catchT (hpc := 116) hown (ep_runST (As := [.ref a1, .int x2, .int (x3 + ((iI 2) * v8))]) (rest := []) ⟨hx, hb, hml, hown, hts⟩ (metTX0_cell l hfl G h a1 x2 (x3 + ((iI 2) * v8)) eo9) (va_cwS 3 hts (lw_S q1114 q1115 q85 q1116) rfl rfl rfl hsX0_cell ⟨Nat.le_of_ble_eq_true rfl, Nat.le_of_ble_eq_true rfl⟩) (ep_preS hK hZ hw) rfl rfl hl.1 rfl (lv_room (Nat.le_of_ble_eq_true rfl)) dX0_takesIn_40 ⟨Nat.le_of_ble_eq_true rfl, Nat.le_of_ble_eq_true rfl⟩) hw (by rw [hxo9_2]; exact ep_cat3c (kind := 2) htab (by decide) (by decide) (hts _ q1044) (hK.2.2.2.2.2.2 ("java/lang/ArrayIndexOutOfBoundsException", "java/lang/NullPointerException") (List.mem_of_getElem? (i := 6) rfl)) (hts _ q1100) (hK.2.2.2.2.2.2 ("java/lang/ArrayIndexOutOfBoundsException", "java/lang/ClassCastException") (List.mem_of_getElem? (i := 7) rfl)) (hts _ q1069)) (fun H locs hw => ?_)
            refine lv_astore (lv' := [(5, .ref xo9.2.1), (0, .ref a0), (1, .ref a1), (2, .int x2), (3, .int x3), (4, .int x4)]) hx hb dX0_takesIn_116 hl (by decide) rfl (fun ls hl => ?_)
            refine lv_iconst (v := iI 2) hx hb dX0_takesIn_118 rfl ?_
            exact ep_retiW hx hb hr hlocks hw (hT3 _ (Option.some.inj ho3).symm) dX0_takesIn_119
          have ho3 := orL_2 hko9 rfl
          refine ep_calli0 (va_runS (As := [.ref a1, .int x2, .int (x3 + ((iI 2) * v8))]) (rest := []) ⟨hx, hb, hml, hown, hts⟩ (metX0_cell l hfl G h a1 x2 (x3 + ((iI 2) * v8)) eo9) (va_cwS 3 hts (lw_S q1114 q1115 q85 q1116) rfl rfl rfl hsX0_cell ⟨Nat.le_of_ble_eq_true rfl, Nat.le_of_ble_eq_true rfl⟩) (ep_preS hK hZ hw) rfl rfl hl.1 rfl (lv_room (Nat.le_of_ble_eq_true rfl)) dX0_takesIn_40 ⟨Nat.le_of_ble_eq_true rfl, Nat.le_of_ble_eq_true rfl⟩) hw (fun H locs hw => ?_)
          refine lv_istore (lv' := [(6, .int o9.1), (5, .int (x3 + ((iI 2) * v8))), (0, .ref a0), (1, .ref a1), (2, .int x2), (3, .int x3), (4, .int x4)]) hx hb dX0_takesIn_43 hl (by decide) rfl (fun ls hl => ?_)
          refine lv_aload_n hx hb dX0_takesIn_45 rfl (lv_at hl 3 rfl) ?_
          refine lv_iload_n hx hb dX0_takesIn_46 rfl (lv_at hl 4 rfl) ?_
          refine lv_iload hx hb dX0_takesIn_47 (lv_at hl 1 rfl) ?_
          refine lv_iconst (v := iI 1) hx hb dX0_takesIn_49 rfl ?_
          refine lv_iadd hx hb dX0_takesIn_50 ?_
          obtain ⟨zo10, eo10, hko10⟩ := orL_s ho3
          rcases zo10 with xo10 | o10
          · have ho3 := orL_1 hko10 rfl
            by_cases hxo10_1 : xo10.1 = 1
            · have ho3 := oi_t ho3 hxo10_1
              refine ep_catchT (hpc := 108) hown (ep_runST (As := [.ref a1, .int x2, .int ((x3 + ((iI 2) * v8)) + (iI 1))]) (rest := []) ⟨hx, hb, hml, hown, hts⟩ (metTX0_cell l hfl G o9.2 a1 x2 ((x3 + ((iI 2) * v8)) + (iI 1)) eo10) (va_cwS 3 hts (lw_S q1114 q1115 q85 q1116) rfl rfl rfl hsX0_cell ⟨Nat.le_of_ble_eq_true rfl, Nat.le_of_ble_eq_true rfl⟩) (ep_preS hK hZ hw) rfl rfl hl.1 rfl (lv_room (Nat.le_of_ble_eq_true rfl)) dX0_takesIn_51 ⟨Nat.le_of_ble_eq_true rfl, Nat.le_of_ble_eq_true rfl⟩) hw (by rw [hxo10_1]; exact ep_cat2a (kind := 1) htab (by decide) (by decide) (hts _ q1044)) (fun H locs hw => ?_)
              refine lv_astore (lv' := [(5, .ref xo10.2.1), (6, .int o9.1), (0, .ref a0), (1, .ref a1), (2, .int x2), (3, .int x3), (4, .int x4)]) hx hb dX0_takesIn_108 hl (by decide) rfl (fun ls hl => ?_)
              refine lv_iconst (v := iI 1) hx hb dX0_takesIn_110 rfl ?_
              exact ep_retiW hx hb hr hlocks hw (hT3 _ (Option.some.inj ho3).symm) dX0_takesIn_111
            have ho3 := oi_f ho3 hxo10_1
            by_cases hxo10_3 : xo10.1 = 3
            · have ho3 := oi_t ho3 hxo10_3
              refine ep_catchT (hpc := 112) hown (ep_runST (As := [.ref a1, .int x2, .int ((x3 + ((iI 2) * v8)) + (iI 1))]) (rest := []) ⟨hx, hb, hml, hown, hts⟩ (metTX0_cell l hfl G o9.2 a1 x2 ((x3 + ((iI 2) * v8)) + (iI 1)) eo10) (va_cwS 3 hts (lw_S q1114 q1115 q85 q1116) rfl rfl rfl hsX0_cell ⟨Nat.le_of_ble_eq_true rfl, Nat.le_of_ble_eq_true rfl⟩) (ep_preS hK hZ hw) rfl rfl hl.1 rfl (lv_room (Nat.le_of_ble_eq_true rfl)) dX0_takesIn_51 ⟨Nat.le_of_ble_eq_true rfl, Nat.le_of_ble_eq_true rfl⟩) hw (by rw [hxo10_3]; exact ep_cat2b (kind := 3) htab (by decide) (by decide) (hts _ q1044) (hK.2.2.2.2.2.2 ("java/lang/ClassCastException", "java/lang/NullPointerException") (List.mem_of_getElem? (i := 8) rfl)) (hts _ q1100)) (fun H locs hw => ?_)
              refine lv_astore (lv' := [(5, .ref xo10.2.1), (6, .int o9.1), (0, .ref a0), (1, .ref a1), (2, .int x2), (3, .int x3), (4, .int x4)]) hx hb dX0_takesIn_112 hl (by decide) rfl (fun ls hl => ?_)
              refine lv_iconst (v := iI 3) hx hb dX0_takesIn_114 rfl ?_
              exact ep_retiW hx hb hr hlocks hw (hT3 _ (Option.some.inj ho3).symm) dX0_takesIn_115
            have ho3 := oi_f ho3 hxo10_3
            obtain ⟨hxo10_2, ho3⟩ := oi_c ho3
            refine ep_catchT (hpc := 116) hown (ep_runST (As := [.ref a1, .int x2, .int ((x3 + ((iI 2) * v8)) + (iI 1))]) (rest := []) ⟨hx, hb, hml, hown, hts⟩ (metTX0_cell l hfl G o9.2 a1 x2 ((x3 + ((iI 2) * v8)) + (iI 1)) eo10) (va_cwS 3 hts (lw_S q1114 q1115 q85 q1116) rfl rfl rfl hsX0_cell ⟨Nat.le_of_ble_eq_true rfl, Nat.le_of_ble_eq_true rfl⟩) (ep_preS hK hZ hw) rfl rfl hl.1 rfl (lv_room (Nat.le_of_ble_eq_true rfl)) dX0_takesIn_51 ⟨Nat.le_of_ble_eq_true rfl, Nat.le_of_ble_eq_true rfl⟩) hw (by rw [hxo10_2]; exact ep_cat3c (kind := 2) htab (by decide) (by decide) (hts _ q1044) (hK.2.2.2.2.2.2 ("java/lang/ArrayIndexOutOfBoundsException", "java/lang/NullPointerException") (List.mem_of_getElem? (i := 6) rfl)) (hts _ q1100) (hK.2.2.2.2.2.2 ("java/lang/ArrayIndexOutOfBoundsException", "java/lang/ClassCastException") (List.mem_of_getElem? (i := 7) rfl)) (hts _ q1069)) (fun H locs hw => ?_)
            refine lv_astore (lv' := [(5, .ref xo10.2.1), (6, .int o9.1), (0, .ref a0), (1, .ref a1), (2, .int x2), (3, .int x3), (4, .int x4)]) hx hb dX0_takesIn_116 hl (by decide) rfl (fun ls hl => ?_)
            refine lv_iconst (v := iI 2) hx hb dX0_takesIn_118 rfl ?_
            exact ep_retiW hx hb hr hlocks hw (hT3 _ (Option.some.inj ho3).symm) dX0_takesIn_119
          have ho3 := orL_2 hko10 rfl
          refine ep_calli0 (va_runS (As := [.ref a1, .int x2, .int ((x3 + ((iI 2) * v8)) + (iI 1))]) (rest := []) ⟨hx, hb, hml, hown, hts⟩ (metX0_cell l hfl G o9.2 a1 x2 ((x3 + ((iI 2) * v8)) + (iI 1)) eo10) (va_cwS 3 hts (lw_S q1114 q1115 q85 q1116) rfl rfl rfl hsX0_cell ⟨Nat.le_of_ble_eq_true rfl, Nat.le_of_ble_eq_true rfl⟩) (ep_preS hK hZ hw) rfl rfl hl.1 rfl (lv_room (Nat.le_of_ble_eq_true rfl)) dX0_takesIn_51 ⟨Nat.le_of_ble_eq_true rfl, Nat.le_of_ble_eq_true rfl⟩) hw (fun H locs hw => ?_)
          refine lv_istore (lv' := [(7, .int o10.1), (6, .int o9.1), (5, .int (x3 + ((iI 2) * v8))), (0, .ref a0), (1, .ref a1), (2, .int x2), (3, .int x3), (4, .int x4)]) hx hb dX0_takesIn_54 hl (by decide) rfl (fun ls hl => ?_)
          refine lv_aload_n hx hb dX0_takesIn_56 rfl (lv_at hl 3 rfl) ?_
          refine lv_aload_n hx hb dX0_takesIn_57 rfl (lv_at hl 3 rfl) ?_
          refine lv_iload hx hb dX0_takesIn_58 (lv_at hl 1 rfl) ?_
          refine lv_iload hx hb dX0_takesIn_60 (lv_at hl 0 rfl) ?_
          obtain ⟨o11, eo11, ho3⟩ := ob_s ho3
          refine ep_calli0 (va_runV (As := [.int o9.1, .int o10.1]) (rest := [.ref a0]) ⟨hx, hb, hml, hown, hts⟩ (metX0_drives l G o10.2 a0 o9.1 o10.1 eo11) (cwV 2 hts (lw_V q626 q628 qs17 q85 q629) rfl rfl rfl hdX0_drives ⟨Nat.le_of_ble_eq_true rfl, Nat.le_of_ble_eq_true rfl⟩) (ep_preV hK hZ hw rfl (ckX0_drives eo11)) rfl rfl hl.1 rfl (lv_room (Nat.le_of_ble_eq_true rfl)) dX0_takesIn_62 ⟨Nat.le_of_ble_eq_true rfl, Nat.le_of_ble_eq_true rfl⟩) hw (fun H locs hw => ?_)
          obtain ⟨o12, ho12, ho3⟩ := ob_s ho3
          have hJ12 : ∀ (H : Heap) (locs : List Loc) (ls : Array Slot), ep_W G ep_cl o11.2 s H locs → lv_has ls 8 [(0, .ref a0), (1, .ref a1), (2, .int x2), (3, .int x3), (4, .int x4)] → wX0_takesIn p l e s m below meth c G h a0 a1 x2 x3 x4 res 0 0 H locs (F0 m 79 ls [.int o12, .ref a0]) := by
            intro H locs ls hw hl
            obtain ⟨h15, eh15, ho3⟩ := ob_s ho3
            refine ep_put (C := RX0) (T := TX0) (N := 25) (ci := 0) hx hb hts in_X0 tyX0 tyX0_ok nmX0 hown hK hw rfl (by decide) 24 (by decide) q953 rfl rfl rfl eh15 dX0_takesIn_79 (fun H locs hw => ?_)
            refine lv_aload_n hx hb dX0_takesIn_82 rfl (lv_at hl 0 rfl) ?_
            refine lv_dup hx hb dX0_takesIn_83 rfl ?_
            obtain ⟨v16, ev16, ho3⟩ := ob_s ho3
            refine ep_get (C := RX0) (T := TX0) (N := 25) (ci := 0) hx hb hts in_X0 hown hK hw rfl 23 (by decide) q952 (gI_f ev16) dX0_takesIn_84 ?_
            refine lv_aload_n hx hb dX0_takesIn_87 rfl (lv_at hl 0 rfl) ?_
            obtain ⟨v17, ev17, ho3⟩ := ob_s ho3
            refine ep_get (C := RX0) (T := TX0) (N := 25) (ci := 0) hx hb hts in_X0 hown hK hw rfl 24 (by decide) q953 (gI_f ev17) dX0_takesIn_88 ?_
            have hJ18 : wX0_takesIn p l e s m below meth c G h a0 a1 x2 x3 x4 res 0 0 H locs (F0 m 99 ls [.int (if v17 = 0 then iI 1 else iI 0), .int v16, .ref a0]) := by
              refine lv_iadd hx hb dX0_takesIn_99 ?_
              obtain ⟨h20, eh20, ho3⟩ := ob_s ho3
              refine ep_put (C := RX0) (T := TX0) (N := 25) (ci := 0) hx hb hts in_X0 tyX0 tyX0_ok nmX0 hown hK hw rfl (by decide) 23 (by decide) q952 rfl rfl rfl eh20 dX0_takesIn_100 (fun H locs hw => ?_)
              refine lv_goto (tgt := 10) hx hb dX0_takesIn_103 (by decide) ?_
              exact ih3 _ ho3 _ _ _ hw (lv_sub hl [0, 1, 2, 3, 4] rfl)
            refine lv_if_ne (tgt := 98) hx hb dX0_takesIn_91 (by decide) (fun c19 => ?_) (fun c19 => ?_)
            · refine lv_iconst (v := iI 0) hx hb dX0_takesIn_98 rfl ?_
              rw [if_neg c19] at hJ18
              exact hJ18
            · refine lv_iconst (v := iI 1) hx hb dX0_takesIn_94 rfl ?_
              refine lv_goto (tgt := 99) hx hb dX0_takesIn_95 (by decide) ?_
              rw [if_pos c19] at hJ18
              exact hJ18
          refine lv_if_ge (tgt := 78) hx hb dX0_takesIn_65 (by decide) (fun c13 => ?_) (fun c13 => ?_)
          · have ho12 := oi_t ho12 c13
            refine lv_iconst (v := iI 0) hx hb dX0_takesIn_78 rfl ?_
            obtain rfl := Option.some.inj ho12
            exact hJ12 _ _ _ hw (lv_sub hl [3, 4, 5, 6, 7] rfl)
          · have ho12 := oi_f ho12 c13
            refine lv_bipush (v := iI (-20)) hx hb dX0_takesIn_68 (by decide) ?_
            refine lv_aload_n hx hb dX0_takesIn_70 rfl (lv_at hl 3 rfl) ?_
            obtain ⟨v14, ev14, ho12⟩ := ob_s ho12
            refine ep_get (C := RX0) (T := TX0) (N := 25) (ci := 0) hx hb hts in_X0 hown hK hw rfl 23 (by decide) q952 (gI_f ev14) dX0_takesIn_71 ?_
            refine lv_isub hx hb dX0_takesIn_74 ?_
            refine lv_goto (tgt := 79) hx hb dX0_takesIn_75 (by decide) ?_
            obtain rfl := Option.some.inj ho12
            exact hJ12 _ _ _ hw (lv_sub hl [3, 4, 5, 6, 7] rfl)
  exact hL3 FUEL _ ho3 _ _ _ hw (lv_sub hl [0, 1, 2, 3, 4] rfl)
abbrev wX0_cellN (p : Program) (l : Launch) (e : Env) (s : State) (m : MethodId) (below : List Frame) (meth : Method) (c : Code) (G : EG) (h : Hp) (x1 : Int32) (x2 : Int32) (res : Int32 × Hp) (k9 n9 : Nat) (H : Heap) (locs : List Loc) (g : JFrame) : Prop := W p l e (headSpec (ws_ yX0_cell cX0_cell 3 (some .int)) ({ frames := 8, cells := 0, slots := 0, locals := 10300 } : Room)).room s m ([.null, .int x1, .int x2] : List Value).toArray below meth c H locs k9 n9 (MQ below (ep_Qi G ep_cl res.2 res.1) ([.null, .int x1, .int x2] : List Value).toArray s 0 0 (ep_A G)) g
set_option maxHeartbeats 4000000 in
theorem metX0_cellN (l : Launch) (hfl : l.flags = flags0) (G : EG) (h : Hp) (x1 : Int32) (x2 : Int32) {res : Int32 × Hp} (hf : fX0_cellN h x1 x2 = some (.inr res)) : Met l yX0_cell (ws_ yX0_cell cX0_cell 3 (some .int)) ({ frames := 8, cells := 0, slots := 0, locals := 10300 } : Room) (ep_Pc G ep_cl h [.null, .int x1, .int x2]) (ep_Qi G ep_cl res.2 res.1) 0 0 (ep_A G) := by
  refine Met.ofW (cc := cX0_cell) (maxL := 3) (ret := (some .int)) (by decide) rfl ?_
  intro p e s m args below meth c s₁ B hml hv
  obtain ⟨rfl, hR, hK, hZ⟩ := hv
  have hx := B.exec
  have hb := B.bytes
  have hr := B.returns
  have hlocks := B.notSynchronized
  have hts := atoms_spec (ws := (ws_ yX0_cell cX0_cell 3 (some .int))) B.pre
  have hts : ∀ w ∈ lw_all, w.before _ s = true := fun w h => hts w (List.mem_cons_of_mem _ h)
  have hown : s.vm.findClass RX0 = some m.cls := findClass_of_methodNamed B.named
  have hw : ep_W G ep_cl h s s.heap [] := ⟨hR, va_S.rf⟩
  have hl := lv_entry ([.null, .int x1, .int x2]) (n := 3) (Nat.le_of_ble_eq_true rfl)
  rw [lg_entry_eq]
  generalize (lg_sl ([.null, .int x1, .int x2]) ++ List.replicate (3 - (lg_sl ([.null, .int x1, .int x2])).length) Slot.unset).toArray = ls at hl ⊢
  have hl : lv_has ls 3 [(0, .null), (1, .int x1), (2, .int x2)] := hl
  unfold fX0_cellN at hf
  show wX0_cellN p l e s m below meth c G h x1 x2 res 0 0 s.heap ([]) (F0 m 0 ls [])
  by_cases c1 : x1 = 0
  · have hf := oi_t hf c1
    cases hf
  · have hf := oi_f hf c1
    by_cases c2 : x1 = (iI 1)
    · have hf := oi_t hf c2
      cases hf
    · have hf := oi_f hf c2
      cases hf
abbrev wTX0_cellN (p : Program) (l : Launch) (e : Env) (s : State) (m : MethodId) (below : List Frame) (meth : Method) (c : Code) (G : EG) (h : Hp) (x1 : Int32) (x2 : Int32) (res : Thr) (k9 n9 : Nat) (H : Heap) (locs : List Loc) (g : JFrame) : Prop := W p l e (headSpec (ws_ yX0_cell cX0_cell 3 (some .int)) ({ frames := 8, cells := 1, slots := 8, locals := 10300 } : Room)).room s m ([.null, .int x1, .int x2] : List Value).toArray below meth c H locs k9 n9 (MQT below (ep_Qt G ep_cl res) ([.null, .int x1, .int x2] : List Value).toArray s 1 8 (ep_A G)) g
set_option maxHeartbeats 4000000 in
theorem metTX0_cellN (l : Launch) (hfl : l.flags = flags0) (G : EG) (h : Hp) (x1 : Int32) (x2 : Int32) {res : Thr} (hf : fX0_cellN h x1 x2 = some (.inl res)) : MetT l yX0_cell (ws_ yX0_cell cX0_cell 3 (some .int)) ({ frames := 8, cells := 1, slots := 8, locals := 10300 } : Room) (ep_Pc G ep_cl h [.null, .int x1, .int x2]) (ep_Qt G ep_cl res) 1 8 (ep_A G) := by
  refine MetT.ofW (cc := cX0_cell) (maxL := 3) (ret := (some .int)) (by decide) rfl ?_
  intro p e s m args below meth c s₁ B hml hv
  obtain ⟨rfl, hR, hK, hZ⟩ := hv
  have hx := B.exec
  have hb := B.bytes
  have hr := B.returns
  have hlocks := B.notSynchronized
  have hts := atoms_spec (ws := (ws_ yX0_cell cX0_cell 3 (some .int))) B.pre
  have hno : c.exceptionTable.toList = [] := by
    have h := B.noHandlers (hts _ List.mem_cons_self)
    simpa using h
  have hts : ∀ w ∈ lw_all, w.before _ s = true := fun w h => hts w (List.mem_cons_of_mem _ h)
  have hown : s.vm.findClass RX0 = some m.cls := findClass_of_methodNamed B.named
  have hw : ep_W G ep_cl h s s.heap [] := ⟨hR, va_S.rf⟩
  have hl := lv_entry ([.null, .int x1, .int x2]) (n := 3) (Nat.le_of_ble_eq_true rfl)
  rw [lg_entry_eq]
  generalize (lg_sl ([.null, .int x1, .int x2]) ++ List.replicate (3 - (lg_sl ([.null, .int x1, .int x2])).length) Slot.unset).toArray = ls at hl ⊢
  have hl : lv_has ls 3 [(0, .null), (1, .int x1), (2, .int x2)] := hl
  unfold fX0_cellN at hf
  show wTX0_cellN p l e s m below meth c G h x1 x2 res 0 0 s.heap ([]) (F0 m 0 ls [])
  refine lv_iload_n hx hb dX0_cell_0 rfl (lv_at hl 1 rfl) ?_
  refine lv_if_ne (tgt := 13) hx hb dX0_cell_1 (by decide) (fun c1 => ?_) (fun c1 => ?_)
  · have hf := oi_f hf c1
    refine lv_iload_n hx hb dX0_cell_13 rfl (lv_at hl 1 rfl) ?_
    refine lv_iconst (v := iI 1) hx hb dX0_cell_14 rfl ?_
    refine lv_icmp_ne (tgt := 27) hx hb dX0_cell_15 (by decide) (fun c2 => ?_) (fun c2 => ?_)
    · have hf := oi_f hf c2
      refine lv_aload_nN hx hb dX0_cell_27 rfl (lv_at hl 0 rfl) ?_
      refine lv_castN hx hb dX0_cell_28 ?_
      refine lv_iload_n hx hb dX0_cell_31 rfl (lv_at hl 2 rfl) ?_
      exact ep_vmOut hno hlocks (ep_nul_iaload hx hb hfl hts hK hZ hw (hl.1.trans hml.symm) ⟨Nat.le_of_ble_eq_true rfl, Nat.le_of_ble_eq_true rfl⟩ ⟨Nat.le_of_ble_eq_true rfl, Nat.le_of_ble_eq_true rfl⟩ dX0_cell_32) hw hf
    · have hf := oi_t hf c2
      refine lv_aload_nN hx hb dX0_cell_18 rfl (lv_at hl 0 rfl) ?_
      refine lv_castN hx hb dX0_cell_19 ?_
      refine lv_iload_n hx hb dX0_cell_22 rfl (lv_at hl 2 rfl) ?_
      exact ep_vmOut hno hlocks (ep_nul_saload hx hb hfl hts hK hZ hw (hl.1.trans hml.symm) ⟨Nat.le_of_ble_eq_true rfl, Nat.le_of_ble_eq_true rfl⟩ ⟨Nat.le_of_ble_eq_true rfl, Nat.le_of_ble_eq_true rfl⟩ dX0_cell_23) hw hf
  · have hf := oi_t hf c1
    refine lv_aload_nN hx hb dX0_cell_4 rfl (lv_at hl 0 rfl) ?_
    refine lv_castN hx hb dX0_cell_5 ?_
    refine lv_iload_n hx hb dX0_cell_8 rfl (lv_at hl 2 rfl) ?_
    exact ep_vmOut hno hlocks (ep_nul_baload hx hb hfl hts hK hZ hw (hl.1.trans hml.symm) ⟨Nat.le_of_ble_eq_true rfl, Nat.le_of_ble_eq_true rfl⟩ ⟨Nat.le_of_ble_eq_true rfl, Nat.le_of_ble_eq_true rfl⟩ dX0_cell_9) hw hf
theorem ckX0_takesInN {h : Hp} {a0 : Nat} {x2 : Int32} {x3 : Int32} {x4 : Int32} {res : Int32 × Hp} (hf : fX0_takesInN h a0 x2 x3 x4 = some res) : ep_cls h a0 = some 0 := by
  unfold fX0_takesInN at hf
  exact (oi_c hf).1
abbrev wX0_takesInN (p : Program) (l : Launch) (e : Env) (s : State) (m : MethodId) (below : List Frame) (meth : Method) (c : Code) (G : EG) (h : Hp) (a0 : Nat) (x2 : Int32) (x3 : Int32) (x4 : Int32) (res : Int32 × Hp) (k9 n9 : Nat) (H : Heap) (locs : List Loc) (g : JFrame) : Prop := W p l e (headSpec (wsW_ yX0_takesIn cX0_takesIn 8 (some .int) [(10, 107, 108, 359), (10, 107, 112, 373), (10, 107, 116, 361)]) ({ frames := 9, cells := 1, slots := 8, locals := 10322 } : Room)).room s m ([.ref a0, .null, .int x2, .int x3, .int x4] : List Value).toArray below meth c H locs k9 n9 (MQ below (ep_Qi G ep_cl res.2 res.1) ([.ref a0, .null, .int x2, .int x3, .int x4] : List Value).toArray s 1 8 (ep_A G)) g
set_option maxHeartbeats 4000000 in
theorem metX0_takesInN (l : Launch) (hfl : l.flags = flags0) (G : EG) (h : Hp) (a0 : Nat) (x2 : Int32) (x3 : Int32) (x4 : Int32) {res : Int32 × Hp} (hf : fX0_takesInN h a0 x2 x3 x4 = some res) : Met l yX0_takesIn (wsW_ yX0_takesIn cX0_takesIn 8 (some .int) [(10, 107, 108, 359), (10, 107, 112, 373), (10, 107, 116, 361)]) ({ frames := 9, cells := 1, slots := 8, locals := 10322 } : Room) (ep_Pc G ep_cl h [.ref a0, .null, .int x2, .int x3, .int x4]) (ep_Qi G ep_cl res.2 res.1) 1 8 (ep_A G) := by
  refine va_MetW (cc := cX0_takesIn) (maxL := 8) (ret := (some .int)) (hh := [(10, 107, 108, 359), (10, 107, 112, 373), (10, 107, 116, 361)]) (by decide) rfl ?_
  intro p e s m args below meth c s₁ B hml hv
  obtain ⟨rfl, hR, hK, hZ⟩ := hv
  have hx := B.exec
  have hb := B.bytes
  have hr := B.returns
  have hlocks := B.notSynchronized
  have hts := atoms_spec (ws := (wsW_ yX0_takesIn cX0_takesIn 8 (some .int) [(10, 107, 108, 359), (10, 107, 112, 373), (10, 107, 116, 361)])) B.pre
  have htab := ep_tab B (hts _ List.mem_cons_self)
  have hts : ∀ w ∈ lw_all, w.before _ s = true := fun w h => hts w (List.mem_cons_of_mem _ h)
  have hown : s.vm.findClass RX0 = some m.cls := findClass_of_methodNamed B.named
  have hw : ep_W G ep_cl h s s.heap [] := ⟨hR, va_S.rf⟩
  have hl := lv_entry ([.ref a0, .null, .int x2, .int x3, .int x4]) (n := 8) (Nat.le_of_ble_eq_true rfl)
  rw [lg_entry_eq]
  generalize (lg_sl ([.ref a0, .null, .int x2, .int x3, .int x4]) ++ List.replicate (8 - (lg_sl ([.ref a0, .null, .int x2, .int x3, .int x4])).length) Slot.unset).toArray = ls at hl ⊢
  have hl : lv_has ls 8 [(0, .ref a0), (1, .null), (2, .int x2), (3, .int x3), (4, .int x4)] := hl
  unfold fX0_takesInN at hf
  have hf := (oi_c hf).2
  show wX0_takesInN p l e s m below meth c G h a0 x2 x3 x4 res 0 0 s.heap ([]) (F0 m 0 ls [])
  refine lv_aload_n hx hb dX0_takesIn_0 rfl (lv_at hl 0 rfl) ?_
  refine lv_iconst (v := iI 0) hx hb dX0_takesIn_1 rfl ?_
  obtain ⟨h1, eh1, hf⟩ := ob_s hf
  refine ep_put (C := RX0) (T := TX0) (N := 25) (ci := 0) hx hb hts in_X0 tyX0 tyX0_ok nmX0 hown hK hw rfl (by decide) 23 (by decide) q952 rfl rfl rfl eh1 dX0_takesIn_2 (fun H locs hw => ?_)
  refine lv_aload_n hx hb dX0_takesIn_5 rfl (lv_at hl 0 rfl) ?_
  refine lv_iconst (v := iI 0) hx hb dX0_takesIn_6 rfl ?_
  obtain ⟨h2, eh2, hf⟩ := ob_s hf
  refine ep_put (C := RX0) (T := TX0) (N := 25) (ci := 0) hx hb hts in_X0 tyX0 tyX0_ok nmX0 hown hK hw rfl (by decide) 24 (by decide) q953 rfl rfl rfl eh2 dX0_takesIn_7 (fun H locs hw => ?_)
  obtain ⟨ox3, ho3, hk3⟩ := orL_s hf
  have hT3 : ∀ r, ox3 = .inl r → some r = some res := fun r eo => (by have e := orL_1 hk3 eo; exact e)
  have hJ3 : ∀ o3, ox3 = .inr o3 → ∀ (H : Heap) (locs : List Loc) (ls : Array Slot), ep_W G ep_cl o3 s H locs → lv_has ls 8 [] → wX0_takesInN p l e s m below meth c G h a0 x2 x3 x4 res 0 0 H locs (F0 m 106 ls []) := by
    intro o3 eo H locs ls hw hl
    have hf := orL_2 hk3 eo
    refine lv_iconst (v := iI 0) hx hb dX0_takesIn_106 rfl ?_
    refine W.widen (k := 1) (n := 8) (Nat.le_of_ble_eq_true rfl) (Nat.le_of_ble_eq_true rfl) ?_
    exact ep_retiW hx hb hr hlocks hw hf dX0_takesIn_107
  have hL3 : ∀ (fu : Nat) (h : Hp), fX0_takesInN_L10 a0 x2 x3 x4 fu h = some ox3 → ∀ (H : Heap) (locs : List Loc) (ls : Array Slot), ep_W G ep_cl h s H locs → lv_has ls 8 [(0, .ref a0), (1, .null), (2, .int x2), (3, .int x3), (4, .int x4)] → wX0_takesInN p l e s m below meth c G h a0 x2 x3 x4 res 0 0 H locs (F0 m 10 ls []) := by
    intro fu
    induction fu with
    | zero => intro h ho3; cases ho3
    | succ fu ih3 =>
      intro h ho3 H locs ls hw hl
      rw [fX0_takesInN_L10] at ho3
      refine lv_aload_n hx hb dX0_takesIn_10 rfl (lv_at hl 0 rfl) ?_
      obtain ⟨v4, ev4, ho3⟩ := ob_s ho3
      refine ep_get (C := RX0) (T := TX0) (N := 25) (ci := 0) hx hb hts in_X0 hown hK hw rfl 23 (by decide) q952 (gI_f ev4) dX0_takesIn_11 ?_
      refine lv_iload hx hb dX0_takesIn_14 (lv_at hl 4 rfl) ?_
      refine lv_icmp_ge (tgt := 106) hx hb dX0_takesIn_16 (by decide) (fun c5 => ?_) (fun c5 => ?_)
      · have ho3 := oi_t ho3 c5
        exact hJ3 _ (Option.some.inj ho3).symm _ _ _ hw (lv_sub hl [] rfl)
      · have ho3 := oi_f ho3 c5
        refine lv_aload_n hx hb dX0_takesIn_19 rfl (lv_at hl 0 rfl) ?_
        obtain ⟨v6, ev6, ho3⟩ := ob_s ho3
        refine ep_get (C := RX0) (T := TX0) (N := 25) (ci := 0) hx hb hts in_X0 hown hK hw rfl 24 (by decide) q953 (gI_f ev6) dX0_takesIn_20 ?_
        refine lv_if_ne (tgt := 106) hx hb dX0_takesIn_23 (by decide) (fun c7 => ?_) (fun c7 => ?_)
        · have ho3 := oi_f ho3 c7
          exact hJ3 _ (Option.some.inj ho3).symm _ _ _ hw (lv_sub hl [] rfl)
        · have ho3 := oi_t ho3 c7
          refine lv_iload_n hx hb dX0_takesIn_26 rfl (lv_at hl 3 rfl) ?_
          refine lv_iconst (v := iI 2) hx hb dX0_takesIn_27 rfl ?_
          refine lv_aload_n hx hb dX0_takesIn_28 rfl (lv_at hl 0 rfl) ?_
          obtain ⟨v8, ev8, ho3⟩ := ob_s ho3
          refine ep_get (C := RX0) (T := TX0) (N := 25) (ci := 0) hx hb hts in_X0 hown hK hw rfl 23 (by decide) q952 (gI_f ev8) dX0_takesIn_29 ?_
          refine lv_imul hx hb dX0_takesIn_32 ?_
          refine lv_iadd hx hb dX0_takesIn_33 ?_
          refine lv_istore (lv' := [(5, .int (x3 + ((iI 2) * v8))), (0, .ref a0), (1, .null), (2, .int x2), (3, .int x3), (4, .int x4)]) hx hb dX0_takesIn_34 hl (by decide) rfl (fun ls hl => ?_)
          refine lv_aload_nN hx hb dX0_takesIn_36 rfl (lv_at hl 2 rfl) ?_
          refine lv_iload_n hx hb dX0_takesIn_37 rfl (lv_at hl 3 rfl) ?_
          refine lv_iload hx hb dX0_takesIn_38 (lv_at hl 0 rfl) ?_
          obtain ⟨zo9, eo9, hko9⟩ := orL_s ho3
          rcases zo9 with xo9 | o9
          · have ho3 := orL_1 hko9 rfl
            by_cases hxo9_1 : xo9.1 = 1
            · have ho3 := oi_t ho3 hxo9_1
              refine ep_catchT (hpc := 108) hown (ep_runST (As := [.null, .int x2, .int (x3 + ((iI 2) * v8))]) (rest := []) ⟨hx, hb, hml, hown, hts⟩ (metTX0_cellN l hfl G h x2 (x3 + ((iI 2) * v8)) eo9) (va_cwS 3 hts (lw_S q1114 q1115 q85 q1116) rfl rfl rfl hsX0_cell ⟨Nat.le_of_ble_eq_true rfl, Nat.le_of_ble_eq_true rfl⟩) (ep_preS hK hZ hw) rfl rfl hl.1 rfl (lv_room (Nat.le_of_ble_eq_true rfl)) dX0_takesIn_40 ⟨Nat.le_of_ble_eq_true rfl, Nat.le_of_ble_eq_true rfl⟩) hw (by rw [hxo9_1]; exact ep_cat2a (kind := 1) htab (by decide) (by decide) (hts _ q1044)) (fun H locs hw => ?_)
              refine lv_astore (lv' := [(5, .ref xo9.2.1), (0, .ref a0), (1, .null), (2, .int x2), (3, .int x3), (4, .int x4)]) hx hb dX0_takesIn_108 hl (by decide) rfl (fun ls hl => ?_)
              refine lv_iconst (v := iI 1) hx hb dX0_takesIn_110 rfl ?_
              exact ep_retiW hx hb hr hlocks hw (hT3 _ (Option.some.inj ho3).symm) dX0_takesIn_111
            have ho3 := oi_f ho3 hxo9_1
            by_cases hxo9_3 : xo9.1 = 3
            · have ho3 := oi_t ho3 hxo9_3
              refine ep_catchT (hpc := 112) hown (ep_runST (As := [.null, .int x2, .int (x3 + ((iI 2) * v8))]) (rest := []) ⟨hx, hb, hml, hown, hts⟩ (metTX0_cellN l hfl G h x2 (x3 + ((iI 2) * v8)) eo9) (va_cwS 3 hts (lw_S q1114 q1115 q85 q1116) rfl rfl rfl hsX0_cell ⟨Nat.le_of_ble_eq_true rfl, Nat.le_of_ble_eq_true rfl⟩) (ep_preS hK hZ hw) rfl rfl hl.1 rfl (lv_room (Nat.le_of_ble_eq_true rfl)) dX0_takesIn_40 ⟨Nat.le_of_ble_eq_true rfl, Nat.le_of_ble_eq_true rfl⟩) hw (by rw [hxo9_3]; exact ep_cat2b (kind := 3) htab (by decide) (by decide) (hts _ q1044) (hK.2.2.2.2.2.2 ("java/lang/ClassCastException", "java/lang/NullPointerException") (List.mem_of_getElem? (i := 8) rfl)) (hts _ q1100)) (fun H locs hw => ?_)
              refine lv_astore (lv' := [(5, .ref xo9.2.1), (0, .ref a0), (1, .null), (2, .int x2), (3, .int x3), (4, .int x4)]) hx hb dX0_takesIn_112 hl (by decide) rfl (fun ls hl => ?_)
              refine lv_iconst (v := iI 3) hx hb dX0_takesIn_114 rfl ?_
              exact ep_retiW hx hb hr hlocks hw (hT3 _ (Option.some.inj ho3).symm) dX0_takesIn_115
            have ho3 := oi_f ho3 hxo9_3
            obtain ⟨hxo9_2, ho3⟩ := oi_c ho3
            refine ep_catchT (hpc := 116) hown (ep_runST (As := [.null, .int x2, .int (x3 + ((iI 2) * v8))]) (rest := []) ⟨hx, hb, hml, hown, hts⟩ (metTX0_cellN l hfl G h x2 (x3 + ((iI 2) * v8)) eo9) (va_cwS 3 hts (lw_S q1114 q1115 q85 q1116) rfl rfl rfl hsX0_cell ⟨Nat.le_of_ble_eq_true rfl, Nat.le_of_ble_eq_true rfl⟩) (ep_preS hK hZ hw) rfl rfl hl.1 rfl (lv_room (Nat.le_of_ble_eq_true rfl)) dX0_takesIn_40 ⟨Nat.le_of_ble_eq_true rfl, Nat.le_of_ble_eq_true rfl⟩) hw (by rw [hxo9_2]; exact ep_cat3c (kind := 2) htab (by decide) (by decide) (hts _ q1044) (hK.2.2.2.2.2.2 ("java/lang/ArrayIndexOutOfBoundsException", "java/lang/NullPointerException") (List.mem_of_getElem? (i := 6) rfl)) (hts _ q1100) (hK.2.2.2.2.2.2 ("java/lang/ArrayIndexOutOfBoundsException", "java/lang/ClassCastException") (List.mem_of_getElem? (i := 7) rfl)) (hts _ q1069)) (fun H locs hw => ?_)
            refine lv_astore (lv' := [(5, .ref xo9.2.1), (0, .ref a0), (1, .null), (2, .int x2), (3, .int x3), (4, .int x4)]) hx hb dX0_takesIn_116 hl (by decide) rfl (fun ls hl => ?_)
            refine lv_iconst (v := iI 2) hx hb dX0_takesIn_118 rfl ?_
            exact ep_retiW hx hb hr hlocks hw (hT3 _ (Option.some.inj ho3).symm) dX0_takesIn_119
          have ho3 := orL_2 hko9 rfl
          refine ep_calli0 (va_runS (As := [.null, .int x2, .int (x3 + ((iI 2) * v8))]) (rest := []) ⟨hx, hb, hml, hown, hts⟩ (metX0_cellN l hfl G h x2 (x3 + ((iI 2) * v8)) eo9) (va_cwS 3 hts (lw_S q1114 q1115 q85 q1116) rfl rfl rfl hsX0_cell ⟨Nat.le_of_ble_eq_true rfl, Nat.le_of_ble_eq_true rfl⟩) (ep_preS hK hZ hw) rfl rfl hl.1 rfl (lv_room (Nat.le_of_ble_eq_true rfl)) dX0_takesIn_40 ⟨Nat.le_of_ble_eq_true rfl, Nat.le_of_ble_eq_true rfl⟩) hw (fun H locs hw => ?_)
          refine lv_istore (lv' := [(6, .int o9.1), (5, .int (x3 + ((iI 2) * v8))), (0, .ref a0), (1, .null), (2, .int x2), (3, .int x3), (4, .int x4)]) hx hb dX0_takesIn_43 hl (by decide) rfl (fun ls hl => ?_)
          refine lv_aload_nN hx hb dX0_takesIn_45 rfl (lv_at hl 3 rfl) ?_
          refine lv_iload_n hx hb dX0_takesIn_46 rfl (lv_at hl 4 rfl) ?_
          refine lv_iload hx hb dX0_takesIn_47 (lv_at hl 1 rfl) ?_
          refine lv_iconst (v := iI 1) hx hb dX0_takesIn_49 rfl ?_
          refine lv_iadd hx hb dX0_takesIn_50 ?_
          obtain ⟨zo10, eo10, hko10⟩ := orL_s ho3
          rcases zo10 with xo10 | o10
          · have ho3 := orL_1 hko10 rfl
            by_cases hxo10_1 : xo10.1 = 1
            · have ho3 := oi_t ho3 hxo10_1
              refine ep_catchT (hpc := 108) hown (ep_runST (As := [.null, .int x2, .int ((x3 + ((iI 2) * v8)) + (iI 1))]) (rest := []) ⟨hx, hb, hml, hown, hts⟩ (metTX0_cellN l hfl G o9.2 x2 ((x3 + ((iI 2) * v8)) + (iI 1)) eo10) (va_cwS 3 hts (lw_S q1114 q1115 q85 q1116) rfl rfl rfl hsX0_cell ⟨Nat.le_of_ble_eq_true rfl, Nat.le_of_ble_eq_true rfl⟩) (ep_preS hK hZ hw) rfl rfl hl.1 rfl (lv_room (Nat.le_of_ble_eq_true rfl)) dX0_takesIn_51 ⟨Nat.le_of_ble_eq_true rfl, Nat.le_of_ble_eq_true rfl⟩) hw (by rw [hxo10_1]; exact ep_cat2a (kind := 1) htab (by decide) (by decide) (hts _ q1044)) (fun H locs hw => ?_)
              refine lv_astore (lv' := [(5, .ref xo10.2.1), (6, .int o9.1), (0, .ref a0), (1, .null), (2, .int x2), (3, .int x3), (4, .int x4)]) hx hb dX0_takesIn_108 hl (by decide) rfl (fun ls hl => ?_)
              refine lv_iconst (v := iI 1) hx hb dX0_takesIn_110 rfl ?_
              exact ep_retiW hx hb hr hlocks hw (hT3 _ (Option.some.inj ho3).symm) dX0_takesIn_111
            have ho3 := oi_f ho3 hxo10_1
            by_cases hxo10_3 : xo10.1 = 3
            · have ho3 := oi_t ho3 hxo10_3
              refine ep_catchT (hpc := 112) hown (ep_runST (As := [.null, .int x2, .int ((x3 + ((iI 2) * v8)) + (iI 1))]) (rest := []) ⟨hx, hb, hml, hown, hts⟩ (metTX0_cellN l hfl G o9.2 x2 ((x3 + ((iI 2) * v8)) + (iI 1)) eo10) (va_cwS 3 hts (lw_S q1114 q1115 q85 q1116) rfl rfl rfl hsX0_cell ⟨Nat.le_of_ble_eq_true rfl, Nat.le_of_ble_eq_true rfl⟩) (ep_preS hK hZ hw) rfl rfl hl.1 rfl (lv_room (Nat.le_of_ble_eq_true rfl)) dX0_takesIn_51 ⟨Nat.le_of_ble_eq_true rfl, Nat.le_of_ble_eq_true rfl⟩) hw (by rw [hxo10_3]; exact ep_cat2b (kind := 3) htab (by decide) (by decide) (hts _ q1044) (hK.2.2.2.2.2.2 ("java/lang/ClassCastException", "java/lang/NullPointerException") (List.mem_of_getElem? (i := 8) rfl)) (hts _ q1100)) (fun H locs hw => ?_)
              refine lv_astore (lv' := [(5, .ref xo10.2.1), (6, .int o9.1), (0, .ref a0), (1, .null), (2, .int x2), (3, .int x3), (4, .int x4)]) hx hb dX0_takesIn_112 hl (by decide) rfl (fun ls hl => ?_)
              refine lv_iconst (v := iI 3) hx hb dX0_takesIn_114 rfl ?_
              exact ep_retiW hx hb hr hlocks hw (hT3 _ (Option.some.inj ho3).symm) dX0_takesIn_115
            have ho3 := oi_f ho3 hxo10_3
            obtain ⟨hxo10_2, ho3⟩ := oi_c ho3
            refine ep_catchT (hpc := 116) hown (ep_runST (As := [.null, .int x2, .int ((x3 + ((iI 2) * v8)) + (iI 1))]) (rest := []) ⟨hx, hb, hml, hown, hts⟩ (metTX0_cellN l hfl G o9.2 x2 ((x3 + ((iI 2) * v8)) + (iI 1)) eo10) (va_cwS 3 hts (lw_S q1114 q1115 q85 q1116) rfl rfl rfl hsX0_cell ⟨Nat.le_of_ble_eq_true rfl, Nat.le_of_ble_eq_true rfl⟩) (ep_preS hK hZ hw) rfl rfl hl.1 rfl (lv_room (Nat.le_of_ble_eq_true rfl)) dX0_takesIn_51 ⟨Nat.le_of_ble_eq_true rfl, Nat.le_of_ble_eq_true rfl⟩) hw (by rw [hxo10_2]; exact ep_cat3c (kind := 2) htab (by decide) (by decide) (hts _ q1044) (hK.2.2.2.2.2.2 ("java/lang/ArrayIndexOutOfBoundsException", "java/lang/NullPointerException") (List.mem_of_getElem? (i := 6) rfl)) (hts _ q1100) (hK.2.2.2.2.2.2 ("java/lang/ArrayIndexOutOfBoundsException", "java/lang/ClassCastException") (List.mem_of_getElem? (i := 7) rfl)) (hts _ q1069)) (fun H locs hw => ?_)
            refine lv_astore (lv' := [(5, .ref xo10.2.1), (6, .int o9.1), (0, .ref a0), (1, .null), (2, .int x2), (3, .int x3), (4, .int x4)]) hx hb dX0_takesIn_116 hl (by decide) rfl (fun ls hl => ?_)
            refine lv_iconst (v := iI 2) hx hb dX0_takesIn_118 rfl ?_
            exact ep_retiW hx hb hr hlocks hw (hT3 _ (Option.some.inj ho3).symm) dX0_takesIn_119
          have ho3 := orL_2 hko10 rfl
          refine ep_calli0 (va_runS (As := [.null, .int x2, .int ((x3 + ((iI 2) * v8)) + (iI 1))]) (rest := []) ⟨hx, hb, hml, hown, hts⟩ (metX0_cellN l hfl G o9.2 x2 ((x3 + ((iI 2) * v8)) + (iI 1)) eo10) (va_cwS 3 hts (lw_S q1114 q1115 q85 q1116) rfl rfl rfl hsX0_cell ⟨Nat.le_of_ble_eq_true rfl, Nat.le_of_ble_eq_true rfl⟩) (ep_preS hK hZ hw) rfl rfl hl.1 rfl (lv_room (Nat.le_of_ble_eq_true rfl)) dX0_takesIn_51 ⟨Nat.le_of_ble_eq_true rfl, Nat.le_of_ble_eq_true rfl⟩) hw (fun H locs hw => ?_)
          refine lv_istore (lv' := [(7, .int o10.1), (6, .int o9.1), (5, .int (x3 + ((iI 2) * v8))), (0, .ref a0), (1, .null), (2, .int x2), (3, .int x3), (4, .int x4)]) hx hb dX0_takesIn_54 hl (by decide) rfl (fun ls hl => ?_)
          refine lv_aload_n hx hb dX0_takesIn_56 rfl (lv_at hl 3 rfl) ?_
          refine lv_aload_n hx hb dX0_takesIn_57 rfl (lv_at hl 3 rfl) ?_
          refine lv_iload hx hb dX0_takesIn_58 (lv_at hl 1 rfl) ?_
          refine lv_iload hx hb dX0_takesIn_60 (lv_at hl 0 rfl) ?_
          obtain ⟨o11, eo11, ho3⟩ := ob_s ho3
          refine ep_calli0 (va_runV (As := [.int o9.1, .int o10.1]) (rest := [.ref a0]) ⟨hx, hb, hml, hown, hts⟩ (metX0_drives l G o10.2 a0 o9.1 o10.1 eo11) (cwV 2 hts (lw_V q626 q628 qs17 q85 q629) rfl rfl rfl hdX0_drives ⟨Nat.le_of_ble_eq_true rfl, Nat.le_of_ble_eq_true rfl⟩) (ep_preV hK hZ hw rfl (ckX0_drives eo11)) rfl rfl hl.1 rfl (lv_room (Nat.le_of_ble_eq_true rfl)) dX0_takesIn_62 ⟨Nat.le_of_ble_eq_true rfl, Nat.le_of_ble_eq_true rfl⟩) hw (fun H locs hw => ?_)
          obtain ⟨o12, ho12, ho3⟩ := ob_s ho3
          have hJ12 : ∀ (H : Heap) (locs : List Loc) (ls : Array Slot), ep_W G ep_cl o11.2 s H locs → lv_has ls 8 [(0, .ref a0), (1, .null), (2, .int x2), (3, .int x3), (4, .int x4)] → wX0_takesInN p l e s m below meth c G h a0 x2 x3 x4 res 0 0 H locs (F0 m 79 ls [.int o12, .ref a0]) := by
            intro H locs ls hw hl
            obtain ⟨h15, eh15, ho3⟩ := ob_s ho3
            refine ep_put (C := RX0) (T := TX0) (N := 25) (ci := 0) hx hb hts in_X0 tyX0 tyX0_ok nmX0 hown hK hw rfl (by decide) 24 (by decide) q953 rfl rfl rfl eh15 dX0_takesIn_79 (fun H locs hw => ?_)
            refine lv_aload_n hx hb dX0_takesIn_82 rfl (lv_at hl 0 rfl) ?_
            refine lv_dup hx hb dX0_takesIn_83 rfl ?_
            obtain ⟨v16, ev16, ho3⟩ := ob_s ho3
            refine ep_get (C := RX0) (T := TX0) (N := 25) (ci := 0) hx hb hts in_X0 hown hK hw rfl 23 (by decide) q952 (gI_f ev16) dX0_takesIn_84 ?_
            refine lv_aload_n hx hb dX0_takesIn_87 rfl (lv_at hl 0 rfl) ?_
            obtain ⟨v17, ev17, ho3⟩ := ob_s ho3
            refine ep_get (C := RX0) (T := TX0) (N := 25) (ci := 0) hx hb hts in_X0 hown hK hw rfl 24 (by decide) q953 (gI_f ev17) dX0_takesIn_88 ?_
            have hJ18 : wX0_takesInN p l e s m below meth c G h a0 x2 x3 x4 res 0 0 H locs (F0 m 99 ls [.int (if v17 = 0 then iI 1 else iI 0), .int v16, .ref a0]) := by
              refine lv_iadd hx hb dX0_takesIn_99 ?_
              obtain ⟨h20, eh20, ho3⟩ := ob_s ho3
              refine ep_put (C := RX0) (T := TX0) (N := 25) (ci := 0) hx hb hts in_X0 tyX0 tyX0_ok nmX0 hown hK hw rfl (by decide) 23 (by decide) q952 rfl rfl rfl eh20 dX0_takesIn_100 (fun H locs hw => ?_)
              refine lv_goto (tgt := 10) hx hb dX0_takesIn_103 (by decide) ?_
              exact ih3 _ ho3 _ _ _ hw (lv_sub hl [0, 1, 2, 3, 4] rfl)
            refine lv_if_ne (tgt := 98) hx hb dX0_takesIn_91 (by decide) (fun c19 => ?_) (fun c19 => ?_)
            · refine lv_iconst (v := iI 0) hx hb dX0_takesIn_98 rfl ?_
              rw [if_neg c19] at hJ18
              exact hJ18
            · refine lv_iconst (v := iI 1) hx hb dX0_takesIn_94 rfl ?_
              refine lv_goto (tgt := 99) hx hb dX0_takesIn_95 (by decide) ?_
              rw [if_pos c19] at hJ18
              exact hJ18
          refine lv_if_ge (tgt := 78) hx hb dX0_takesIn_65 (by decide) (fun c13 => ?_) (fun c13 => ?_)
          · have ho12 := oi_t ho12 c13
            refine lv_iconst (v := iI 0) hx hb dX0_takesIn_78 rfl ?_
            obtain rfl := Option.some.inj ho12
            exact hJ12 _ _ _ hw (lv_sub hl [3, 4, 5, 6, 7] rfl)
          · have ho12 := oi_f ho12 c13
            refine lv_bipush (v := iI (-20)) hx hb dX0_takesIn_68 (by decide) ?_
            refine lv_aload_n hx hb dX0_takesIn_70 rfl (lv_at hl 3 rfl) ?_
            obtain ⟨v14, ev14, ho12⟩ := ob_s ho12
            refine ep_get (C := RX0) (T := TX0) (N := 25) (ci := 0) hx hb hts in_X0 hown hK hw rfl 23 (by decide) q952 (gI_f ev14) dX0_takesIn_71 ?_
            refine lv_isub hx hb dX0_takesIn_74 ?_
            refine lv_goto (tgt := 79) hx hb dX0_takesIn_75 (by decide) ?_
            obtain rfl := Option.some.inj ho12
            exact hJ12 _ _ _ hw (lv_sub hl [3, 4, 5, 6, 7] rfl)
  exact hL3 FUEL _ ho3 _ _ _ hw (lv_sub hl [0, 1, 2, 3, 4] rfl)
theorem hdX0_read : yX0_read.cls = RX0 ∧ yX0_read.cls ≠ "java/lang/invoke/MethodHandle" ∧ yX0_read.cls ≠ "java/lang/invoke/VarHandle" ∧ (parseMethodDescriptor yX0_read.desc).map (fun d => d.parameters.length) = some 4 := by decide +kernel
theorem ckX0_read {h : Hp} {a0 : Nat} {x1 : Int32} {x2 : Int32} {x3 : Int32} {x4 : Int32} {res : Int32 × Hp} (hf : fX0_read h a0 x1 x2 x3 x4 = some res) : ep_cls h a0 = some 0 := by
  unfold fX0_read at hf
  exact (oi_c hf).1
abbrev wX0_read (p : Program) (l : Launch) (e : Env) (s : State) (m : MethodId) (below : List Frame) (meth : Method) (c : Code) (G : EG) (h : Hp) (a0 : Nat) (x1 : Int32) (x2 : Int32) (x3 : Int32) (x4 : Int32) (res : Int32 × Hp) (k9 n9 : Nat) (H : Heap) (locs : List Loc) (g : JFrame) : Prop := W p l e (headSpec (ws_ yX0_read cX0_read 6 (some .int)) ({ frames := 10, cells := 3, slots := 222, locals := 10349 } : Room)).room s m ([.ref a0, .int x1, .int x2, .int x3, .int x4] : List Value).toArray below meth c H locs k9 n9 (MQ below (ep_Qi G ep_cl res.2 res.1) ([.ref a0, .int x1, .int x2, .int x3, .int x4] : List Value).toArray s 3 222 (ep_A G)) g
set_option maxHeartbeats 4000000 in
theorem metX0_read (l : Launch) (hfl : l.flags = flags0) (G : EG) (h : Hp) (a0 : Nat) (x1 : Int32) (x2 : Int32) (x3 : Int32) (x4 : Int32) {res : Int32 × Hp} (hf : fX0_read h a0 x1 x2 x3 x4 = some res) : Met l yX0_read (ws_ yX0_read cX0_read 6 (some .int)) ({ frames := 10, cells := 3, slots := 222, locals := 10349 } : Room) (ep_Pc G ep_cl h [.ref a0, .int x1, .int x2, .int x3, .int x4]) (ep_Qi G ep_cl res.2 res.1) 3 222 (ep_A G) := by
  refine Met.ofW (cc := cX0_read) (maxL := 6) (ret := (some .int)) (by decide) rfl ?_
  intro p e s m args below meth c s₁ B hml hv
  obtain ⟨rfl, hR, hK, hZ⟩ := hv
  have hx := B.exec
  have hb := B.bytes
  have hr := B.returns
  have hlocks := B.notSynchronized
  have hts := atoms_spec (ws := (ws_ yX0_read cX0_read 6 (some .int))) B.pre
  have hts : ∀ w ∈ lw_all, w.before _ s = true := fun w h => hts w (List.mem_cons_of_mem _ h)
  have hown : s.vm.findClass RX0 = some m.cls := findClass_of_methodNamed B.named
  have hw : ep_W G ep_cl h s s.heap [] := ⟨hR, va_S.rf⟩
  have hl := lv_entry ([.ref a0, .int x1, .int x2, .int x3, .int x4]) (n := 6) (Nat.le_of_ble_eq_true rfl)
  rw [lg_entry_eq]
  generalize (lg_sl ([.ref a0, .int x1, .int x2, .int x3, .int x4]) ++ List.replicate (6 - (lg_sl ([.ref a0, .int x1, .int x2, .int x3, .int x4])).length) Slot.unset).toArray = ls at hl ⊢
  have hl : lv_has ls 6 [(0, .ref a0), (1, .int x1), (2, .int x2), (3, .int x3), (4, .int x4)] := hl
  unfold fX0_read at hf
  have hf := (oi_c hf).2
  show wX0_read p l e s m below meth c G h a0 x1 x2 x3 x4 res 0 0 s.heap ([]) (F0 m 0 ls [])
  refine lv_iload_n hx hb dX0_read_0 rfl (lv_at hl 1 rfl) ?_
  refine lv_i2l (v := x1.toInt64) hx hb dX0_read_1 rfl ?_
  refine lv_lconst (v := lI 0) hx hb dX0_read_2 (by decide) ?_
  refine lv_ldc2 (v := (3 : Int64)) hx hb hown (hts _ q650) dX0_read_3 ?_
  obtain ⟨v1, ev1, hf⟩ := ob_s hf
  refine ep_calli0 (va_runS (As := [.long x1.toInt64, .long (lI 0), .long (3 : Int64)]) (rest := []) ⟨hx, hb, hml, hown, hts⟩ (metX0_isIn l G h x1.toInt64 (lI 0) (3 : Int64) ev1) (va_cwS 3 hts (lw_S q114 q115 q85 q116) rfl rfl rfl hsX0_isIn ⟨Nat.le_of_ble_eq_true rfl, Nat.le_of_ble_eq_true rfl⟩) (ep_preS hK hZ hw) rfl rfl hl.1 rfl (lv_room (Nat.le_of_ble_eq_true rfl)) dX0_read_6 ⟨Nat.le_of_ble_eq_true rfl, Nat.le_of_ble_eq_true rfl⟩) hw (fun H locs hw => ?_)
  refine lv_if_eq (tgt := 37) hx hb dX0_read_9 (by decide) (fun c2 => ?_) (fun c2 => ?_)
  · have hf := oi_t hf c2
    refine lv_iconst (v := iI (-1)) hx hb dX0_read_37 rfl ?_
    refine W.widen (k := 3) (n := 222) (Nat.le_of_ble_eq_true rfl) (Nat.le_of_ble_eq_true rfl) ?_
    exact ep_retiW hx hb hr hlocks hw hf dX0_read_38
  · have hf := oi_f hf c2
    refine lv_iload_n hx hb dX0_read_12 rfl (lv_at hl 2 rfl) ?_
    refine lv_i2l (v := x2.toInt64) hx hb dX0_read_13 rfl ?_
    refine lv_lconst (v := lI 0) hx hb dX0_read_14 (by decide) ?_
    refine lv_ldc2 (v := (2 : Int64)) hx hb hown (hts _ q570) dX0_read_15 ?_
    obtain ⟨v3, ev3, hf⟩ := ob_s hf
    refine ep_calli0 (va_runS (As := [.long x2.toInt64, .long (lI 0), .long (2 : Int64)]) (rest := []) ⟨hx, hb, hml, hown, hts⟩ (metX0_isIn l G h x2.toInt64 (lI 0) (2 : Int64) ev3) (va_cwS 3 hts (lw_S q114 q115 q85 q116) rfl rfl rfl hsX0_isIn ⟨Nat.le_of_ble_eq_true rfl, Nat.le_of_ble_eq_true rfl⟩) (ep_preS hK hZ hw) rfl rfl hl.1 rfl (lv_room (Nat.le_of_ble_eq_true rfl)) dX0_read_18 ⟨Nat.le_of_ble_eq_true rfl, Nat.le_of_ble_eq_true rfl⟩) hw (fun H locs hw => ?_)
    refine lv_if_eq (tgt := 37) hx hb dX0_read_21 (by decide) (fun c4 => ?_) (fun c4 => ?_)
    · have hf := oi_t hf c4
      refine lv_iconst (v := iI (-1)) hx hb dX0_read_37 rfl ?_
      refine W.widen (k := 3) (n := 222) (Nat.le_of_ble_eq_true rfl) (Nat.le_of_ble_eq_true rfl) ?_
      exact ep_retiW hx hb hr hlocks hw hf dX0_read_38
    · have hf := oi_f hf c4
      refine lv_iload hx hb dX0_read_24 (lv_at hl 4 rfl) ?_
      refine lv_i2l (v := x4.toInt64) hx hb dX0_read_26 rfl ?_
      refine lv_lconst (v := lI 0) hx hb dX0_read_27 (by decide) ?_
      refine lv_ldc2 (v := (20 : Int64)) hx hb hown (hts _ q1095) dX0_read_28 ?_
      obtain ⟨v5, ev5, hf⟩ := ob_s hf
      refine ep_calli0 (va_runS (As := [.long x4.toInt64, .long (lI 0), .long (20 : Int64)]) (rest := []) ⟨hx, hb, hml, hown, hts⟩ (metX0_isIn l G h x4.toInt64 (lI 0) (20 : Int64) ev5) (va_cwS 3 hts (lw_S q114 q115 q85 q116) rfl rfl rfl hsX0_isIn ⟨Nat.le_of_ble_eq_true rfl, Nat.le_of_ble_eq_true rfl⟩) (ep_preS hK hZ hw) rfl rfl hl.1 rfl (lv_room (Nat.le_of_ble_eq_true rfl)) dX0_read_31 ⟨Nat.le_of_ble_eq_true rfl, Nat.le_of_ble_eq_true rfl⟩) hw (fun H locs hw => ?_)
      refine lv_if_ne (tgt := 39) hx hb dX0_read_34 (by decide) (fun c6 => ?_) (fun c6 => ?_)
      · have hf := oi_f hf c6
        refine lv_aload_n hx hb dX0_read_39 rfl (lv_at hl 0 rfl) ?_
        obtain ⟨r7, er7, hf⟩ := ob_s hf
        refine ep_get (C := RX0) (T := TX0) (N := 25) (ci := 0) hx hb hts in_X0 hown hK hw rfl 20 (by decide) q949 (gR_f er7) dX0_read_40 ?_
        refine lv_aload_n hx hb dX0_read_43 rfl (lv_at hl 0 rfl) ?_
        obtain ⟨r8, er8, hf⟩ := ob_s hf
        refine ep_get (C := RX0) (T := TX0) (N := 25) (ci := 0) hx hb hts in_X0 hown hK hw rfl 3 (by decide) q930 (gR_f er8) dX0_read_44 ?_
        obtain ⟨o9, eo9, hf⟩ := ob_s hf
        refine ep_callv0 (va_runV (As := [.ref r8]) (rest := []) ⟨hx, hb, hml, hown, hts⟩ (metX1_takes l G h r7 r8 eo9) (cwV 1 hts (lw_V q535 q536 q537 q86 q538) rfl rfl rfl hdX1_takes ⟨Nat.le_of_ble_eq_true rfl, Nat.le_of_ble_eq_true rfl⟩) (ep_preV hK hZ hw rfl (ckX1_takes eo9)) rfl rfl hl.1 rfl (lv_room (Nat.le_of_ble_eq_true rfl)) dX0_read_47 ⟨Nat.le_of_ble_eq_true rfl, Nat.le_of_ble_eq_true rfl⟩) hw (fun H locs hw => ?_)
        refine lv_aload_n hx hb dX0_read_50 rfl (lv_at hl 0 rfl) ?_
        refine lv_aload_n hx hb dX0_read_51 rfl (lv_at hl 0 rfl) ?_
        obtain ⟨r10, er10, hf⟩ := ob_s hf
        refine ep_get (C := RX0) (T := TX0) (N := 25) (ci := 0) hx hb hts in_X0 hown hK hw rfl 21 (by decide) q950 (gR_f er10) dX0_read_52 ?_
        refine lv_iload_n hx hb dX0_read_55 rfl (lv_at hl 1 rfl) ?_
        obtain ⟨v11, ev11, hf⟩ := ob_s hf
        refine ep_aald 8 (by decide) rfl hx hb hK hw ev11 dX0_read_56 ?_
        obtain ⟨q12, eq12, hf⟩ := ob_s hf
        rcases q12 with _ | r13
        · unfold nsp at hf
          refine ep_getN (C := RX3) (T := TX3) (N := 2) (ci := 3) hx hb hts in_X3 hown hK hw rfl 0 (by decide) q919 (gQ_f eq12) dX0_read_57 ?_
          refine lv_iload_n hx hb dX0_read_60 rfl (lv_at hl 2 rfl) ?_
          refine lv_iload_n hx hb dX0_read_61 rfl (lv_at hl 3 rfl) ?_
          refine lv_iload hx hb dX0_read_62 (lv_at hl 4 rfl) ?_
          obtain ⟨o14, eo14, hf⟩ := ob_s hf
          refine ep_calli (ep_runVW (As := [.null, .int x2, .int x3, .int x4]) (rest := []) ⟨hx, hb, hml, hown, hts⟩ (metX0_takesInN l hfl G o9 a0 x2 x3 x4 eo14) rfl rfl ⟨Nat.le_of_ble_eq_true rfl, Nat.le_of_ble_eq_true rfl⟩ q1096 q1098 qs33 q85 q1099 hdX0_takesIn.2 (ep_preV hK hZ hw rfl (ckX0_takesInN eo14)) rfl rfl hl.1 rfl (lv_room (Nat.le_of_ble_eq_true rfl)) dX0_read_64 ⟨Nat.le_of_ble_eq_true rfl, Nat.le_of_ble_eq_true rfl⟩) hw (fun H locs hw => ?_)
          refine lv_istore (lv' := [(5, .int o14.1), (0, .ref a0), (1, .int x1), (2, .int x2), (3, .int x3), (4, .int x4)]) hx hb dX0_read_67 hl (by decide) rfl (fun ls hl => ?_)
          refine lv_aload_n hx hb dX0_read_69 rfl (lv_at hl 1 rfl) ?_
          obtain ⟨v15, ev15, hf⟩ := ob_s hf
          refine ep_get (C := RX0) (T := TX0) (N := 25) (ci := 0) hx hb hts in_X0 hown hK hw rfl 24 (by decide) q953 (gI_f ev15) dX0_read_70 ?_
          refine lv_if_eq (tgt := 92) hx hb dX0_read_73 (by decide) (fun c16 => ?_) (fun c16 => ?_)
          · have hf := oi_t hf c16
            refine lv_aload_n hx hb dX0_read_92 rfl (lv_at hl 1 rfl) ?_
            refine lv_iload hx hb dX0_read_93 (lv_at hl 0 rfl) ?_
            obtain ⟨h17, eh17, hf⟩ := ob_s hf
            refine ep_put (C := RX0) (T := TX0) (N := 25) (ci := 0) hx hb hts in_X0 tyX0 tyX0_ok nmX0 hown hK hw rfl (by decide) 22 (by decide) q951 rfl rfl rfl eh17 dX0_read_95 (fun H locs hw => ?_)
            refine lv_aload_n hx hb dX0_read_98 rfl (lv_at hl 1 rfl) ?_
            obtain ⟨v18, ev18, hf⟩ := ob_s hf
            refine ep_get (C := RX0) (T := TX0) (N := 25) (ci := 0) hx hb hts in_X0 hown hK hw rfl 23 (by decide) q952 (gI_f ev18) dX0_read_99 ?_
            refine W.widen (k := 3) (n := 222) (Nat.le_of_ble_eq_true rfl) (Nat.le_of_ble_eq_true rfl) ?_
            exact ep_retiW hx hb hr hlocks hw hf dX0_read_102
          · have hf := oi_f hf c16
            refine lv_aload_n hx hb dX0_read_76 rfl (lv_at hl 1 rfl) ?_
            obtain ⟨r19, er19, hf⟩ := ob_s hf
            refine ep_get (C := RX0) (T := TX0) (N := 25) (ci := 0) hx hb hts in_X0 hown hK hw rfl 3 (by decide) q930 (gR_f er19) dX0_read_77 ?_
            refine lv_aload_n hx hb dX0_read_80 rfl (lv_at hl 1 rfl) ?_
            obtain ⟨r20, er20, hf⟩ := ob_s hf
            refine ep_get (C := RX0) (T := TX0) (N := 25) (ci := 0) hx hb hts in_X0 hown hK hw rfl 20 (by decide) q949 (gR_f er20) dX0_read_81 ?_
            obtain ⟨o21, eo21, hf⟩ := ob_s hf
            refine ep_callv0 (va_runV (As := [.ref r20]) (rest := []) ⟨hx, hb, hml, hown, hts⟩ (metX1_takes l G o14.2 r19 r20 eo21) (cwV 1 hts (lw_V q535 q536 q537 q86 q538) rfl rfl rfl hdX1_takes ⟨Nat.le_of_ble_eq_true rfl, Nat.le_of_ble_eq_true rfl⟩) (ep_preV hK hZ hw rfl (ckX1_takes eo21)) rfl rfl hl.1 rfl (lv_room (Nat.le_of_ble_eq_true rfl)) dX0_read_84 ⟨Nat.le_of_ble_eq_true rfl, Nat.le_of_ble_eq_true rfl⟩) hw (fun H locs hw => ?_)
            refine lv_aload_n hx hb dX0_read_87 rfl (lv_at hl 1 rfl) ?_
            obtain ⟨v22, ev22, hf⟩ := ob_s hf
            refine ep_get (C := RX0) (T := TX0) (N := 25) (ci := 0) hx hb hts in_X0 hown hK hw rfl 24 (by decide) q953 (gI_f ev22) dX0_read_88 ?_
            refine W.widen (k := 3) (n := 222) (Nat.le_of_ble_eq_true rfl) (Nat.le_of_ble_eq_true rfl) ?_
            exact ep_retiW hx hb hr hlocks hw hf dX0_read_91
        · unfold nsp at hf
          refine ep_getN (C := RX3) (T := TX3) (N := 2) (ci := 3) hx hb hts in_X3 hown hK hw rfl 0 (by decide) q919 (gQ_f eq12) dX0_read_57 ?_
          refine lv_iload_n hx hb dX0_read_60 rfl (lv_at hl 2 rfl) ?_
          refine lv_iload_n hx hb dX0_read_61 rfl (lv_at hl 3 rfl) ?_
          refine lv_iload hx hb dX0_read_62 (lv_at hl 4 rfl) ?_
          obtain ⟨o23, eo23, hf⟩ := ob_s hf
          refine ep_calli (ep_runVW (As := [.ref r13, .int x2, .int x3, .int x4]) (rest := []) ⟨hx, hb, hml, hown, hts⟩ (metX0_takesIn l hfl G o9 a0 r13 x2 x3 x4 eo23) rfl rfl ⟨Nat.le_of_ble_eq_true rfl, Nat.le_of_ble_eq_true rfl⟩ q1096 q1098 qs33 q85 q1099 hdX0_takesIn.2 (ep_preV hK hZ hw rfl (ckX0_takesIn eo23)) rfl rfl hl.1 rfl (lv_room (Nat.le_of_ble_eq_true rfl)) dX0_read_64 ⟨Nat.le_of_ble_eq_true rfl, Nat.le_of_ble_eq_true rfl⟩) hw (fun H locs hw => ?_)
          refine lv_istore (lv' := [(5, .int o23.1), (0, .ref a0), (1, .int x1), (2, .int x2), (3, .int x3), (4, .int x4)]) hx hb dX0_read_67 hl (by decide) rfl (fun ls hl => ?_)
          refine lv_aload_n hx hb dX0_read_69 rfl (lv_at hl 1 rfl) ?_
          obtain ⟨v24, ev24, hf⟩ := ob_s hf
          refine ep_get (C := RX0) (T := TX0) (N := 25) (ci := 0) hx hb hts in_X0 hown hK hw rfl 24 (by decide) q953 (gI_f ev24) dX0_read_70 ?_
          refine lv_if_eq (tgt := 92) hx hb dX0_read_73 (by decide) (fun c25 => ?_) (fun c25 => ?_)
          · have hf := oi_t hf c25
            refine lv_aload_n hx hb dX0_read_92 rfl (lv_at hl 1 rfl) ?_
            refine lv_iload hx hb dX0_read_93 (lv_at hl 0 rfl) ?_
            obtain ⟨h26, eh26, hf⟩ := ob_s hf
            refine ep_put (C := RX0) (T := TX0) (N := 25) (ci := 0) hx hb hts in_X0 tyX0 tyX0_ok nmX0 hown hK hw rfl (by decide) 22 (by decide) q951 rfl rfl rfl eh26 dX0_read_95 (fun H locs hw => ?_)
            refine lv_aload_n hx hb dX0_read_98 rfl (lv_at hl 1 rfl) ?_
            obtain ⟨v27, ev27, hf⟩ := ob_s hf
            refine ep_get (C := RX0) (T := TX0) (N := 25) (ci := 0) hx hb hts in_X0 hown hK hw rfl 23 (by decide) q952 (gI_f ev27) dX0_read_99 ?_
            exact ep_retiW hx hb hr hlocks hw hf dX0_read_102
          · have hf := oi_f hf c25
            refine lv_aload_n hx hb dX0_read_76 rfl (lv_at hl 1 rfl) ?_
            obtain ⟨r28, er28, hf⟩ := ob_s hf
            refine ep_get (C := RX0) (T := TX0) (N := 25) (ci := 0) hx hb hts in_X0 hown hK hw rfl 3 (by decide) q930 (gR_f er28) dX0_read_77 ?_
            refine lv_aload_n hx hb dX0_read_80 rfl (lv_at hl 1 rfl) ?_
            obtain ⟨r29, er29, hf⟩ := ob_s hf
            refine ep_get (C := RX0) (T := TX0) (N := 25) (ci := 0) hx hb hts in_X0 hown hK hw rfl 20 (by decide) q949 (gR_f er29) dX0_read_81 ?_
            obtain ⟨o30, eo30, hf⟩ := ob_s hf
            refine ep_callv0 (va_runV (As := [.ref r29]) (rest := []) ⟨hx, hb, hml, hown, hts⟩ (metX1_takes l G o23.2 r28 r29 eo30) (cwV 1 hts (lw_V q535 q536 q537 q86 q538) rfl rfl rfl hdX1_takes ⟨Nat.le_of_ble_eq_true rfl, Nat.le_of_ble_eq_true rfl⟩) (ep_preV hK hZ hw rfl (ckX1_takes eo30)) rfl rfl hl.1 rfl (lv_room (Nat.le_of_ble_eq_true rfl)) dX0_read_84 ⟨Nat.le_of_ble_eq_true rfl, Nat.le_of_ble_eq_true rfl⟩) hw (fun H locs hw => ?_)
            refine lv_aload_n hx hb dX0_read_87 rfl (lv_at hl 1 rfl) ?_
            obtain ⟨v31, ev31, hf⟩ := ob_s hf
            refine ep_get (C := RX0) (T := TX0) (N := 25) (ci := 0) hx hb hts in_X0 hown hK hw rfl 24 (by decide) q953 (gI_f ev31) dX0_read_88 ?_
            exact ep_retiW hx hb hr hlocks hw hf dX0_read_91
      · have hf := oi_t hf c6
        refine lv_iconst (v := iI (-1)) hx hb dX0_read_37 rfl ?_
        refine W.widen (k := 3) (n := 222) (Nat.le_of_ble_eq_true rfl) (Nat.le_of_ble_eq_true rfl) ?_
        exact ep_retiW hx hb hr hlocks hw hf dX0_read_38
theorem hdX0_torn : yX0_torn.cls = RX0 ∧ yX0_torn.cls ≠ "java/lang/invoke/MethodHandle" ∧ yX0_torn.cls ≠ "java/lang/invoke/VarHandle" ∧ (parseMethodDescriptor yX0_torn.desc).map (fun d => d.parameters.length) = some 0 := by decide +kernel
theorem ckX0_torn {h : Hp} {a0 : Nat} {res : Int32} (hf : fX0_torn h a0 = some res) : ep_cls h a0 = some 0 := by
  unfold fX0_torn at hf
  exact (oi_c hf).1
abbrev wX0_torn (p : Program) (l : Launch) (e : Env) (s : State) (m : MethodId) (below : List Frame) (meth : Method) (c : Code) (G : EG) (h : Hp) (a0 : Nat) (res : Int32) (k9 n9 : Nat) (H : Heap) (locs : List Loc) (g : JFrame) : Prop := W p l e (headSpec (ws_ yX0_torn cX0_torn 1 (some .int)) ({ frames := 0, cells := 0, slots := 0, locals := 0 } : Room)).room s m ([.ref a0] : List Value).toArray below meth c H locs k9 n9 (MQ below (ep_Qi G ep_cl h res) ([.ref a0] : List Value).toArray s 0 0 (ep_A G)) g
set_option maxHeartbeats 4000000 in
theorem metX0_torn (l : Launch) (G : EG) (h : Hp) (a0 : Nat) {res : Int32} (hf : fX0_torn h a0 = some res) : Met l yX0_torn (ws_ yX0_torn cX0_torn 1 (some .int)) ({ frames := 0, cells := 0, slots := 0, locals := 0 } : Room) (ep_Pc G ep_cl h [.ref a0]) (ep_Qi G ep_cl h res) 0 0 (ep_A G) := by
  refine Met.ofW (cc := cX0_torn) (maxL := 1) (ret := (some .int)) (by decide) rfl ?_
  intro p e s m args below meth c s₁ B hml hv
  obtain ⟨rfl, hR, hK, hZ⟩ := hv
  have hx := B.exec
  have hb := B.bytes
  have hr := B.returns
  have hlocks := B.notSynchronized
  have hts := atoms_spec (ws := (ws_ yX0_torn cX0_torn 1 (some .int))) B.pre
  have hts : ∀ w ∈ lw_all, w.before _ s = true := fun w h => hts w (List.mem_cons_of_mem _ h)
  have hown : s.vm.findClass RX0 = some m.cls := findClass_of_methodNamed B.named
  have hw : ep_W G ep_cl h s s.heap [] := ⟨hR, va_S.rf⟩
  have hl := lv_entry ([.ref a0]) (n := 1) (Nat.le_of_ble_eq_true rfl)
  rw [lg_entry_eq]
  generalize (lg_sl ([.ref a0]) ++ List.replicate (1 - (lg_sl ([.ref a0])).length) Slot.unset).toArray = ls at hl ⊢
  have hl : lv_has ls 1 [(0, .ref a0)] := hl
  unfold fX0_torn at hf
  have hf := (oi_c hf).2
  show wX0_torn p l e s m below meth c G h a0 res 0 0 s.heap ([]) (F0 m 0 ls [])
  refine lv_aload_n hx hb dX0_torn_0 rfl (lv_at hl 0 rfl) ?_
  obtain ⟨v1, ev1, hf⟩ := ob_s hf
  refine ep_get (C := RX0) (T := TX0) (N := 25) (ci := 0) hx hb hts in_X0 hown hK hw rfl 22 (by decide) q951 (gI_f ev1) dX0_torn_1 ?_
  exact ep_retiR hx hb hr hlocks hw hf dX0_torn_4
theorem hdX0_count : yX0_count.cls = RX0 ∧ yX0_count.cls ≠ "java/lang/invoke/MethodHandle" ∧ yX0_count.cls ≠ "java/lang/invoke/VarHandle" ∧ (parseMethodDescriptor yX0_count.desc).map (fun d => d.parameters.length) = some 1 := by decide +kernel
theorem ckX0_count {h : Hp} {a0 : Nat} {x1 : Int32} {res : Int32} (hf : fX0_count h a0 x1 = some res) : ep_cls h a0 = some 0 := by
  unfold fX0_count at hf
  exact (oi_c hf).1
abbrev wX0_count (p : Program) (l : Launch) (e : Env) (s : State) (m : MethodId) (below : List Frame) (meth : Method) (c : Code) (G : EG) (h : Hp) (a0 : Nat) (x1 : Int32) (res : Int32) (k9 n9 : Nat) (H : Heap) (locs : List Loc) (g : JFrame) : Prop := W p l e (headSpec (ws_ yX0_count cX0_count 2 (some .int)) ({ frames := 2, cells := 0, slots := 0, locals := 44 } : Room)).room s m ([.ref a0, .int x1] : List Value).toArray below meth c H locs k9 n9 (MQ below (ep_Qi G ep_cl h res) ([.ref a0, .int x1] : List Value).toArray s 0 0 (ep_A G)) g
set_option maxHeartbeats 4000000 in
theorem metX0_count (l : Launch) (G : EG) (h : Hp) (a0 : Nat) (x1 : Int32) {res : Int32} (hf : fX0_count h a0 x1 = some res) : Met l yX0_count (ws_ yX0_count cX0_count 2 (some .int)) ({ frames := 2, cells := 0, slots := 0, locals := 44 } : Room) (ep_Pc G ep_cl h [.ref a0, .int x1]) (ep_Qi G ep_cl h res) 0 0 (ep_A G) := by
  refine Met.ofW (cc := cX0_count) (maxL := 2) (ret := (some .int)) (by decide) rfl ?_
  intro p e s m args below meth c s₁ B hml hv
  obtain ⟨rfl, hR, hK, hZ⟩ := hv
  have hx := B.exec
  have hb := B.bytes
  have hr := B.returns
  have hlocks := B.notSynchronized
  have hts := atoms_spec (ws := (ws_ yX0_count cX0_count 2 (some .int))) B.pre
  have hts : ∀ w ∈ lw_all, w.before _ s = true := fun w h => hts w (List.mem_cons_of_mem _ h)
  have hown : s.vm.findClass RX0 = some m.cls := findClass_of_methodNamed B.named
  have hw : ep_W G ep_cl h s s.heap [] := ⟨hR, va_S.rf⟩
  have hl := lv_entry ([.ref a0, .int x1]) (n := 2) (Nat.le_of_ble_eq_true rfl)
  rw [lg_entry_eq]
  generalize (lg_sl ([.ref a0, .int x1]) ++ List.replicate (2 - (lg_sl ([.ref a0, .int x1])).length) Slot.unset).toArray = ls at hl ⊢
  have hl : lv_has ls 2 [(0, .ref a0), (1, .int x1)] := hl
  unfold fX0_count at hf
  have hf := (oi_c hf).2
  show wX0_count p l e s m below meth c G h a0 x1 res 0 0 s.heap ([]) (F0 m 0 ls [])
  refine lv_iload_n hx hb dX0_count_0 rfl (lv_at hl 1 rfl) ?_
  by_cases c1 : x1 = iI 0
  · have hf := oi_t hf c1
    refine lv_tableIn (off := 39) (tgt := 40) hx hb dX0_count_1 (by rw [ep_swIn c1 (by decide)]; decide) (by rw [ep_swIn c1 (by decide)]; decide) (by rw [ep_swIn c1 (by decide)]; rfl) (by decide) ?_
    refine lv_aload_n hx hb dX0_count_40 rfl (lv_at hl 0 rfl) ?_
    obtain ⟨r7, er7, hf⟩ := ob_s hf
    refine ep_get (C := RX0) (T := TX0) (N := 25) (ci := 0) hx hb hts in_X0 hown hK hw rfl 3 (by decide) q930 (gR_f er7) dX0_count_41 ?_
    refine lv_iconst (v := iI 0) hx hb dX0_count_44 rfl ?_
    obtain ⟨v8, ev8, hf⟩ := ob_s hf
    refine ep_calli0 (va_runS (As := [.ref r7, .int (iI 0)]) (rest := []) ⟨hx, hb, hml, hown, hts⟩ (metX0_sum l G h r7 (iI 0) ev8) (va_cwS 2 hts (lw_S q853 q854 q85 q855) rfl rfl rfl hsX0_sum ⟨Nat.le_of_ble_eq_true rfl, Nat.le_of_ble_eq_true rfl⟩) (ep_preS hK hZ hw) rfl rfl hl.1 rfl (lv_room (Nat.le_of_ble_eq_true rfl)) dX0_count_45 ⟨Nat.le_of_ble_eq_true rfl, Nat.le_of_ble_eq_true rfl⟩) hw (fun H locs hw => ?_)
    exact ep_retiR hx hb hr hlocks hw hf dX0_count_48
  · have hf := oi_f hf c1
    by_cases c2 : x1 = iI 1
    · have hf := oi_t hf c2
      refine lv_tableIn (off := 48) (tgt := 49) hx hb dX0_count_1 (by rw [ep_swIn c2 (by decide)]; decide) (by rw [ep_swIn c2 (by decide)]; decide) (by rw [ep_swIn c2 (by decide)]; rfl) (by decide) ?_
      refine lv_aload_n hx hb dX0_count_49 rfl (lv_at hl 0 rfl) ?_
      obtain ⟨r9, er9, hf⟩ := ob_s hf
      refine ep_get (C := RX0) (T := TX0) (N := 25) (ci := 0) hx hb hts in_X0 hown hK hw rfl 3 (by decide) q930 (gR_f er9) dX0_count_50 ?_
      refine lv_iconst (v := iI 1) hx hb dX0_count_53 rfl ?_
      obtain ⟨v10, ev10, hf⟩ := ob_s hf
      refine ep_calli0 (va_runS (As := [.ref r9, .int (iI 1)]) (rest := []) ⟨hx, hb, hml, hown, hts⟩ (metX0_sum l G h r9 (iI 1) ev10) (va_cwS 2 hts (lw_S q853 q854 q85 q855) rfl rfl rfl hsX0_sum ⟨Nat.le_of_ble_eq_true rfl, Nat.le_of_ble_eq_true rfl⟩) (ep_preS hK hZ hw) rfl rfl hl.1 rfl (lv_room (Nat.le_of_ble_eq_true rfl)) dX0_count_54 ⟨Nat.le_of_ble_eq_true rfl, Nat.le_of_ble_eq_true rfl⟩) hw (fun H locs hw => ?_)
      exact ep_retiR hx hb hr hlocks hw hf dX0_count_57
    · have hf := oi_f hf c2
      by_cases c3 : x1 = iI 2
      · have hf := oi_t hf c3
        refine lv_tableIn (off := 57) (tgt := 58) hx hb dX0_count_1 (by rw [ep_swIn c3 (by decide)]; decide) (by rw [ep_swIn c3 (by decide)]; decide) (by rw [ep_swIn c3 (by decide)]; rfl) (by decide) ?_
        refine lv_aload_n hx hb dX0_count_58 rfl (lv_at hl 0 rfl) ?_
        obtain ⟨v11, ev11, hf⟩ := ob_s hf
        refine ep_get (C := RX0) (T := TX0) (N := 25) (ci := 0) hx hb hts in_X0 hown hK hw rfl 18 (by decide) q947 (gI_f ev11) dX0_count_59 ?_
        exact ep_retiR hx hb hr hlocks hw hf dX0_count_62
      · have hf := oi_f hf c3
        by_cases c4 : x1 = iI 3
        · have hf := oi_t hf c4
          refine lv_tableIn (off := 62) (tgt := 63) hx hb dX0_count_1 (by rw [ep_swIn c4 (by decide)]; decide) (by rw [ep_swIn c4 (by decide)]; decide) (by rw [ep_swIn c4 (by decide)]; rfl) (by decide) ?_
          refine lv_aload_n hx hb dX0_count_63 rfl (lv_at hl 0 rfl) ?_
          obtain ⟨r12, er12, hf⟩ := ob_s hf
          refine ep_get (C := RX0) (T := TX0) (N := 25) (ci := 0) hx hb hts in_X0 hown hK hw rfl 19 (by decide) q948 (gR_f er12) dX0_count_64 ?_
          refine lv_iconst (v := iI 0) hx hb dX0_count_67 rfl ?_
          obtain ⟨v13, ev13, hf⟩ := ob_s hf
          refine ep_aald 7 (by decide) rfl hx hb hK hw ev13 dX0_count_68 ?_
          obtain ⟨v14, ev14, hf⟩ := ob_s hf
          refine ep_getN (C := RX2) (T := TX2) (N := 5) (ci := 2) hx hb hts in_X2 hown hK hw rfl 3 (by decide) q899 (gI_f ev14) dX0_count_69 ?_
          have hJ15 : wX0_count p l e s m below meth c G h a0 x1 res 0 0 s.heap ([]) (F0 m 80 ls [.int (if v14 = 0 then iI 0 else iI 1)]) := by
            refine lv_aload_n hx hb dX0_count_80 rfl (lv_at hl 0 rfl) ?_
            obtain ⟨r17, er17, hf⟩ := ob_s hf
            refine ep_get (C := RX0) (T := TX0) (N := 25) (ci := 0) hx hb hts in_X0 hown hK hw rfl 19 (by decide) q948 (gR_f er17) dX0_count_81 ?_
            refine lv_iconst (v := iI 1) hx hb dX0_count_84 rfl ?_
            obtain ⟨v18, ev18, hf⟩ := ob_s hf
            refine ep_aald 7 (by decide) rfl hx hb hK hw ev18 dX0_count_85 ?_
            obtain ⟨v19, ev19, hf⟩ := ob_s hf
            refine ep_getN (C := RX2) (T := TX2) (N := 5) (ci := 2) hx hb hts in_X2 hown hK hw rfl 3 (by decide) q899 (gI_f ev19) dX0_count_86 ?_
            refine lv_if_eq (tgt := 96) hx hb dX0_count_89 (by decide) (fun c20 => ?_) (fun c20 => ?_)
            · have hf := oi_t hf c20
              refine lv_iconst (v := iI 0) hx hb dX0_count_96 rfl ?_
              refine lv_iadd hx hb dX0_count_97 ?_
              exact ep_retiR hx hb hr hlocks hw hf dX0_count_98
            · have hf := oi_f hf c20
              refine lv_iconst (v := iI 1) hx hb dX0_count_92 rfl ?_
              refine lv_goto (tgt := 97) hx hb dX0_count_93 (by decide) ?_
              refine lv_iadd hx hb dX0_count_97 ?_
              exact ep_retiR hx hb hr hlocks hw hf dX0_count_98
          refine lv_if_eq (tgt := 79) hx hb dX0_count_72 (by decide) (fun c16 => ?_) (fun c16 => ?_)
          · refine lv_iconst (v := iI 0) hx hb dX0_count_79 rfl ?_
            rw [if_pos c16] at hJ15
            exact hJ15
          · refine lv_iconst (v := iI 1) hx hb dX0_count_75 rfl ?_
            refine lv_goto (tgt := 80) hx hb dX0_count_76 (by decide) ?_
            rw [if_neg c16] at hJ15
            exact hJ15
        · have hf := oi_f hf c4
          by_cases c5 : x1 = iI 4
          · have hf := oi_t hf c5
            refine lv_tableIn (off := 98) (tgt := 99) hx hb dX0_count_1 (by rw [ep_swIn c5 (by decide)]; decide) (by rw [ep_swIn c5 (by decide)]; decide) (by rw [ep_swIn c5 (by decide)]; rfl) (by decide) ?_
            refine lv_aload_n hx hb dX0_count_99 rfl (lv_at hl 0 rfl) ?_
            obtain ⟨v21, ev21, hf⟩ := ob_s hf
            refine ep_get (C := RX0) (T := TX0) (N := 25) (ci := 0) hx hb hts in_X0 hown hK hw rfl 1 (by decide) q927 (gI_f ev21) dX0_count_100 ?_
            exact ep_retiR hx hb hr hlocks hw hf dX0_count_103
          · have hf := oi_f hf c5
            by_cases c6 : x1 = iI 5
            · have hf := oi_t hf c6
              refine lv_tableIn (off := 103) (tgt := 104) hx hb dX0_count_1 (by rw [ep_swIn c6 (by decide)]; decide) (by rw [ep_swIn c6 (by decide)]; decide) (by rw [ep_swIn c6 (by decide)]; rfl) (by decide) ?_
              refine lv_aload_n hx hb dX0_count_104 rfl (lv_at hl 0 rfl) ?_
              obtain ⟨r22, er22, hf⟩ := ob_s hf
              refine ep_get (C := RX0) (T := TX0) (N := 25) (ci := 0) hx hb hts in_X0 hown hK hw rfl 21 (by decide) q950 (gR_f er22) dX0_count_105 ?_
              refine lv_iconst (v := iI 0) hx hb dX0_count_108 rfl ?_
              obtain ⟨v23, ev23, hf⟩ := ob_s hf
              refine ep_aald 8 (by decide) rfl hx hb hK hw ev23 dX0_count_109 ?_
              obtain ⟨q24, eq24, hf⟩ := ob_s hf
              rcases q24 with _ | r25
              · unfold nsp at hf
                refine ep_getN (C := RX3) (T := TX3) (N := 2) (ci := 3) hx hb hts in_X3 hown hK hw rfl 0 (by decide) q919 (gQ_f eq24) dX0_count_110 ?_
                refine lv_ifnonnullN hx hb dX0_count_113 ?_
                refine lv_bipush (v := iI (-4)) hx hb dX0_count_116 (by decide) ?_
                refine lv_goto (tgt := 130) hx hb dX0_count_118 (by decide) ?_
                exact ep_retiR hx hb hr hlocks hw hf dX0_count_130
              · unfold nsp at hf
                refine ep_getN (C := RX3) (T := TX3) (N := 2) (ci := 3) hx hb hts in_X3 hown hK hw rfl 0 (by decide) q919 (gQ_f eq24) dX0_count_110 ?_
                refine lv_ifnonnull (tgt := 121) hx hb dX0_count_113 (by decide) ?_
                refine lv_aload_n hx hb dX0_count_121 rfl (lv_at hl 0 rfl) ?_
                obtain ⟨r26, er26, hf⟩ := ob_s hf
                refine ep_get (C := RX0) (T := TX0) (N := 25) (ci := 0) hx hb hts in_X0 hown hK hw rfl 21 (by decide) q950 (gR_f er26) dX0_count_122 ?_
                refine lv_iconst (v := iI 0) hx hb dX0_count_125 rfl ?_
                obtain ⟨v27, ev27, hf⟩ := ob_s hf
                refine ep_aald 8 (by decide) rfl hx hb hK hw ev27 dX0_count_126 ?_
                obtain ⟨v28, ev28, hf⟩ := ob_s hf
                refine ep_getN (C := RX3) (T := TX3) (N := 2) (ci := 3) hx hb hts in_X3 hown hK hw rfl 1 (by decide) q920 (gI_f ev28) dX0_count_127 ?_
                exact ep_retiR hx hb hr hlocks hw hf dX0_count_130
            · have hf := oi_f hf c6
              refine lv_tableOut (tgt := 131) hx hb dX0_count_1 (ep_swOut (n := 6) (x := x1) (by decide) (lt_s (lt_s (lt_s (lt_s (lt_s (lt_s lt_0 c1) c2) c3) c4) c5) c6)) (by decide) ?_
              refine lv_iconst (v := iI (-1)) hx hb dX0_count_131 rfl ?_
              exact ep_retiR hx hb hr hlocks hw hf dX0_count_132
theorem hdX4_firstDraft : yX4_firstDraft.cls = RX4 ∧ yX4_firstDraft.cls ≠ "java/lang/invoke/MethodHandle" ∧ yX4_firstDraft.cls ≠ "java/lang/invoke/VarHandle" ∧ (parseMethodDescriptor yX4_firstDraft.desc).map (fun d => d.parameters.length) = some 0 := by decide +kernel
theorem ckX4_firstDraft {h : Hp} {a0 : Nat} {res : Hp} (hf : fX4_firstDraft h a0 = some res) : ep_cls h a0 = some 4 := by
  unfold fX4_firstDraft at hf
  exact (oi_c hf).1
abbrev wX4_firstDraft (p : Program) (l : Launch) (e : Env) (s : State) (m : MethodId) (below : List Frame) (meth : Method) (c : Code) (G : EG) (h : Hp) (a0 : Nat) (res : Hp) (k9 n9 : Nat) (H : Heap) (locs : List Loc) (g : JFrame) : Prop := W p l e (headSpec (ws_ yX4_firstDraft cX4_firstDraft 2 none) ({ frames := 0, cells := 0, slots := 0, locals := 0 } : Room)).room s m ([.ref a0] : List Value).toArray below meth c H locs k9 n9 (MQ below (ep_Qv G ep_cl res) ([.ref a0] : List Value).toArray s 0 0 (ep_A G)) g
set_option maxHeartbeats 4000000 in
theorem metX4_firstDraft (l : Launch) (G : EG) (h : Hp) (a0 : Nat) {res : Hp} (hf : fX4_firstDraft h a0 = some res) : Met l yX4_firstDraft (ws_ yX4_firstDraft cX4_firstDraft 2 none) ({ frames := 0, cells := 0, slots := 0, locals := 0 } : Room) (ep_Pc G ep_cl h [.ref a0]) (ep_Qv G ep_cl res) 0 0 (ep_A G) := by
  refine Met.ofW (cc := cX4_firstDraft) (maxL := 2) (ret := none) (by decide) rfl ?_
  intro p e s m args below meth c s₁ B hml hv
  obtain ⟨rfl, hR, hK, hZ⟩ := hv
  have hx := B.exec
  have hb := B.bytes
  have hr := B.returns
  have hlocks := B.notSynchronized
  have hts := atoms_spec (ws := (ws_ yX4_firstDraft cX4_firstDraft 2 none)) B.pre
  have hts : ∀ w ∈ lw_all, w.before _ s = true := fun w h => hts w (List.mem_cons_of_mem _ h)
  have hown : s.vm.findClass RX4 = some m.cls := findClass_of_methodNamed B.named
  have hw : ep_W G ep_cl h s s.heap [] := ⟨hR, va_S.rf⟩
  have hl := lv_entry ([.ref a0]) (n := 2) (Nat.le_of_ble_eq_true rfl)
  rw [lg_entry_eq]
  generalize (lg_sl ([.ref a0]) ++ List.replicate (2 - (lg_sl ([.ref a0])).length) Slot.unset).toArray = ls at hl ⊢
  have hl : lv_has ls 2 [(0, .ref a0)] := hl
  unfold fX4_firstDraft at hf
  have hf := (oi_c hf).2
  show wX4_firstDraft p l e s m below meth c G h a0 res 0 0 s.heap ([]) (F0 m 0 ls [])
  refine lv_iconst (v := iI 0) hx hb dX4_firstDraft_0 rfl ?_
  refine lv_istore_n (lv' := [(1, .int (iI 0)), (0, .ref a0)]) hx hb dX4_firstDraft_1 rfl hl (by decide) rfl (fun ls hl => ?_)
  obtain ⟨o1, ho1, hf⟩ := ob_s hf
  have hJ1 : ∀ (H : Heap) (locs : List Loc) (ls : Array Slot), ep_W G ep_cl o1 s H locs → lv_has ls 2 [(0, .ref a0)] → wX4_firstDraft p l e s m below meth c G h a0 res 0 0 H locs (F0 m 21 ls []) := by
    intro H locs ls hw hl
    refine lv_aload_n hx hb dX4_firstDraft_21 rfl (lv_at hl 0 rfl) ?_
    refine lv_iconst (v := iI 0) hx hb dX4_firstDraft_22 rfl ?_
    obtain ⟨h5, eh5, hf⟩ := ob_s hf
    refine ep_put (C := RX4) (T := TX4) (N := 32) (ci := 4) hx hb hts in_X4 tyX4 tyX4_ok nmX4 hown hK hw rfl (by decide) 8 (by decide) q1147 rfl rfl rfl eh5 dX4_firstDraft_23 (fun H locs hw => ?_)
    refine lv_aload_n hx hb dX4_firstDraft_26 rfl (lv_at hl 0 rfl) ?_
    refine lv_iconst (v := iI 0) hx hb dX4_firstDraft_27 rfl ?_
    obtain ⟨h6, eh6, hf⟩ := ob_s hf
    refine ep_put (C := RX4) (T := TX4) (N := 32) (ci := 4) hx hb hts in_X4 tyX4 tyX4_ok nmX4 hown hK hw rfl (by decide) 9 (by decide) q1148 rfl rfl rfl eh6 dX4_firstDraft_28 (fun H locs hw => ?_)
    refine lv_aload_n hx hb dX4_firstDraft_31 rfl (lv_at hl 0 rfl) ?_
    refine lv_iconst (v := iI 0) hx hb dX4_firstDraft_32 rfl ?_
    obtain ⟨h7, eh7, hf⟩ := ob_s hf
    refine ep_put (C := RX4) (T := TX4) (N := 32) (ci := 4) hx hb hts in_X4 tyX4 tyX4_ok nmX4 hown hK hw rfl (by decide) 10 (by decide) q1149 rfl rfl rfl eh7 dX4_firstDraft_33 (fun H locs hw => ?_)
    refine lv_aload_n hx hb dX4_firstDraft_36 rfl (lv_at hl 0 rfl) ?_
    refine lv_bipush (v := iI (-4)) hx hb dX4_firstDraft_37 (by decide) ?_
    obtain ⟨h8, eh8, hf⟩ := ob_s hf
    refine ep_put (C := RX4) (T := TX4) (N := 32) (ci := 4) hx hb hts in_X4 tyX4 tyX4_ok nmX4 hown hK hw rfl (by decide) 12 (by decide) q1151 rfl rfl rfl eh8 dX4_firstDraft_39 (fun H locs hw => ?_)
    exact ep_retvW hx hb hr hlocks hw hf dX4_firstDraft_42
  have hL1 : ∀ (fu : Nat) (h : Hp) (x1 : Int32), fX4_firstDraft_L2 a0 fu h x1 = some o1 → ∀ (H : Heap) (locs : List Loc) (ls : Array Slot), ep_W G ep_cl h s H locs → lv_has ls 2 [(0, .ref a0), (1, .int x1)] → wX4_firstDraft p l e s m below meth c G h a0 res 0 0 H locs (F0 m 2 ls []) := by
    intro fu
    induction fu with
    | zero => intro h x1 ho1; cases ho1
    | succ fu ih1 =>
      intro h x1 ho1 H locs ls hw hl
      rw [fX4_firstDraft_L2] at ho1
      refine lv_iload_n hx hb dX4_firstDraft_2 rfl (lv_at hl 1 rfl) ?_
      refine lv_bipush (v := iI 75) hx hb dX4_firstDraft_3 (by decide) ?_
      refine lv_icmp_ge (tgt := 21) hx hb dX4_firstDraft_5 (by decide) (fun c2 => ?_) (fun c2 => ?_)
      · have ho1 := oi_t ho1 c2
        obtain rfl := Option.some.inj ho1
        exact hJ1 _ _ _ hw (lv_sub hl [0] rfl)
      · have ho1 := oi_f ho1 c2
        refine lv_aload_n hx hb dX4_firstDraft_8 rfl (lv_at hl 0 rfl) ?_
        obtain ⟨r3, er3, ho1⟩ := ob_s ho1
        refine ep_get (C := RX4) (T := TX4) (N := 32) (ci := 4) hx hb hts in_X4 hown hK hw rfl 7 (by decide) q1146 (gR_f er3) dX4_firstDraft_9 ?_
        refine lv_iload_n hx hb dX4_firstDraft_12 rfl (lv_at hl 1 rfl) ?_
        refine lv_iconst (v := iI 0) hx hb dX4_firstDraft_13 rfl ?_
        obtain ⟨h4, eh4, ho1⟩ := ob_s ho1
        refine ep_iast hx hb hK hw eh4 dX4_firstDraft_14 (fun H locs hw => ?_)
        refine lv_iinc (v := (x1 + iI 1)) (lv' := [(1, .int (x1 + iI 1)), (0, .ref a0)]) hx hb dX4_firstDraft_15 hl (k := 1) rfl rfl (by decide) rfl (fun ls hl => ?_)
        refine lv_goto (tgt := 2) hx hb dX4_firstDraft_18 (by decide) ?_
        exact ih1 _ _ ho1 _ _ _ hw (lv_sub hl [1, 0] rfl)
  exact hL1 FUEL _ _ ho1 _ _ _ hw (lv_sub hl [1, 0] rfl)
theorem hdX4_keepDraft : yX4_keepDraft.cls = RX4 ∧ yX4_keepDraft.cls ≠ "java/lang/invoke/MethodHandle" ∧ yX4_keepDraft.cls ≠ "java/lang/invoke/VarHandle" ∧ (parseMethodDescriptor yX4_keepDraft.desc).map (fun d => d.parameters.length) = some 0 := by decide +kernel
theorem ckX4_keepDraft {h : Hp} {a0 : Nat} {res : Hp} (hf : fX4_keepDraft h a0 = some res) : ep_cls h a0 = some 4 := by
  unfold fX4_keepDraft at hf
  exact (oi_c hf).1
abbrev wX4_keepDraft (p : Program) (l : Launch) (e : Env) (s : State) (m : MethodId) (below : List Frame) (meth : Method) (c : Code) (G : EG) (h : Hp) (a0 : Nat) (res : Hp) (k9 n9 : Nat) (H : Heap) (locs : List Loc) (g : JFrame) : Prop := W p l e (headSpec (ws_ yX4_keepDraft cX4_keepDraft 2 none) ({ frames := 0, cells := 0, slots := 0, locals := 0 } : Room)).room s m ([.ref a0] : List Value).toArray below meth c H locs k9 n9 (MQ below (ep_Qv G ep_cl res) ([.ref a0] : List Value).toArray s 0 0 (ep_A G)) g
set_option maxHeartbeats 4000000 in
theorem metX4_keepDraft (l : Launch) (G : EG) (h : Hp) (a0 : Nat) {res : Hp} (hf : fX4_keepDraft h a0 = some res) : Met l yX4_keepDraft (ws_ yX4_keepDraft cX4_keepDraft 2 none) ({ frames := 0, cells := 0, slots := 0, locals := 0 } : Room) (ep_Pc G ep_cl h [.ref a0]) (ep_Qv G ep_cl res) 0 0 (ep_A G) := by
  refine Met.ofW (cc := cX4_keepDraft) (maxL := 2) (ret := none) (by decide) rfl ?_
  intro p e s m args below meth c s₁ B hml hv
  obtain ⟨rfl, hR, hK, hZ⟩ := hv
  have hx := B.exec
  have hb := B.bytes
  have hr := B.returns
  have hlocks := B.notSynchronized
  have hts := atoms_spec (ws := (ws_ yX4_keepDraft cX4_keepDraft 2 none)) B.pre
  have hts : ∀ w ∈ lw_all, w.before _ s = true := fun w h => hts w (List.mem_cons_of_mem _ h)
  have hown : s.vm.findClass RX4 = some m.cls := findClass_of_methodNamed B.named
  have hw : ep_W G ep_cl h s s.heap [] := ⟨hR, va_S.rf⟩
  have hl := lv_entry ([.ref a0]) (n := 2) (Nat.le_of_ble_eq_true rfl)
  rw [lg_entry_eq]
  generalize (lg_sl ([.ref a0]) ++ List.replicate (2 - (lg_sl ([.ref a0])).length) Slot.unset).toArray = ls at hl ⊢
  have hl : lv_has ls 2 [(0, .ref a0)] := hl
  unfold fX4_keepDraft at hf
  have hf := (oi_c hf).2
  show wX4_keepDraft p l e s m below meth c G h a0 res 0 0 s.heap ([]) (F0 m 0 ls [])
  refine lv_iconst (v := iI 0) hx hb dX4_keepDraft_0 rfl ?_
  refine lv_istore_n (lv' := [(1, .int (iI 0)), (0, .ref a0)]) hx hb dX4_keepDraft_1 rfl hl (by decide) rfl (fun ls hl => ?_)
  obtain ⟨o1, ho1, hf⟩ := ob_s hf
  have hJ1 : ∀ (H : Heap) (locs : List Loc) (ls : Array Slot), ep_W G ep_cl o1 s H locs → lv_has ls 2 [(0, .ref a0)] → wX4_keepDraft p l e s m below meth c G h a0 res 0 0 H locs (F0 m 26 ls []) := by
    intro H locs ls hw hl
    refine lv_aload_n hx hb dX4_keepDraft_26 rfl (lv_at hl 0 rfl) ?_
    refine lv_aload_n hx hb dX4_keepDraft_27 rfl (lv_at hl 0 rfl) ?_
    obtain ⟨v7, ev7, hf⟩ := ob_s hf
    refine ep_get (C := RX4) (T := TX4) (N := 32) (ci := 4) hx hb hts in_X4 hown hK hw rfl 8 (by decide) q1147 (gI_f ev7) dX4_keepDraft_28 ?_
    obtain ⟨h8, eh8, hf⟩ := ob_s hf
    refine ep_put (C := RX4) (T := TX4) (N := 32) (ci := 4) hx hb hts in_X4 tyX4 tyX4_ok nmX4 hown hK hw rfl (by decide) 3 (by decide) q1142 rfl rfl rfl eh8 dX4_keepDraft_31 (fun H locs hw => ?_)
    refine lv_aload_n hx hb dX4_keepDraft_34 rfl (lv_at hl 0 rfl) ?_
    refine lv_aload_n hx hb dX4_keepDraft_35 rfl (lv_at hl 0 rfl) ?_
    obtain ⟨v9, ev9, hf⟩ := ob_s hf
    refine ep_get (C := RX4) (T := TX4) (N := 32) (ci := 4) hx hb hts in_X4 hown hK hw rfl 9 (by decide) q1148 (gI_f ev9) dX4_keepDraft_36 ?_
    obtain ⟨h10, eh10, hf⟩ := ob_s hf
    refine ep_put (C := RX4) (T := TX4) (N := 32) (ci := 4) hx hb hts in_X4 tyX4 tyX4_ok nmX4 hown hK hw rfl (by decide) 4 (by decide) q1143 rfl rfl rfl eh10 dX4_keepDraft_39 (fun H locs hw => ?_)
    refine lv_aload_n hx hb dX4_keepDraft_42 rfl (lv_at hl 0 rfl) ?_
    refine lv_aload_n hx hb dX4_keepDraft_43 rfl (lv_at hl 0 rfl) ?_
    obtain ⟨v11, ev11, hf⟩ := ob_s hf
    refine ep_get (C := RX4) (T := TX4) (N := 32) (ci := 4) hx hb hts in_X4 hown hK hw rfl 10 (by decide) q1149 (gI_f ev11) dX4_keepDraft_44 ?_
    obtain ⟨h12, eh12, hf⟩ := ob_s hf
    refine ep_put (C := RX4) (T := TX4) (N := 32) (ci := 4) hx hb hts in_X4 tyX4 tyX4_ok nmX4 hown hK hw rfl (by decide) 5 (by decide) q1144 rfl rfl rfl eh12 dX4_keepDraft_47 (fun H locs hw => ?_)
    refine lv_iconst (v := iI 0) hx hb dX4_keepDraft_50 rfl ?_
    refine lv_istore_n (lv' := [(1, .int (iI 0)), (0, .ref a0)]) hx hb dX4_keepDraft_51 rfl hl (by decide) rfl (fun ls hl => ?_)
    obtain ⟨o13, ho13, hf⟩ := ob_s hf
    have hJ13 : ∀ (H : Heap) (locs : List Loc) (ls : Array Slot), ep_W G ep_cl o13 s H locs → lv_has ls 2 [(0, .ref a0)] → wX4_keepDraft p l e s m below meth c G h a0 res 0 0 H locs (F0 m 81 ls []) := by
      intro H locs ls hw hl
      refine lv_aload_n hx hb dX4_keepDraft_81 rfl (lv_at hl 0 rfl) ?_
      obtain ⟨r20, er20, hf⟩ := ob_s hf
      refine ep_get (C := RX4) (T := TX4) (N := 32) (ci := 4) hx hb hts in_X4 hown hK hw rfl 2 (by decide) q1141 (gR_f er20) dX4_keepDraft_82 ?_
      refine lv_iconst (v := iI 0) hx hb dX4_keepDraft_85 rfl ?_
      refine lv_iconst (v := iI 0) hx hb dX4_keepDraft_86 rfl ?_
      obtain ⟨h21, eh21, hf⟩ := ob_s hf
      refine ep_zast hx hb hK hw rfl eh21 dX4_keepDraft_87 (fun H locs hw => ?_)
      refine lv_aload_n hx hb dX4_keepDraft_88 rfl (lv_at hl 0 rfl) ?_
      obtain ⟨r22, er22, hf⟩ := ob_s hf
      refine ep_get (C := RX4) (T := TX4) (N := 32) (ci := 4) hx hb hts in_X4 hown hK hw rfl 2 (by decide) q1141 (gR_f er22) dX4_keepDraft_89 ?_
      refine lv_iconst (v := iI 1) hx hb dX4_keepDraft_92 rfl ?_
      refine lv_iconst (v := iI 0) hx hb dX4_keepDraft_93 rfl ?_
      obtain ⟨h23, eh23, hf⟩ := ob_s hf
      refine ep_zast hx hb hK hw rfl eh23 dX4_keepDraft_94 (fun H locs hw => ?_)
      exact ep_retvW hx hb hr hlocks hw hf dX4_keepDraft_95
    have hL13 : ∀ (fu : Nat) (h : Hp) (x1 : Int32), fX4_keepDraft_L52 a0 fu h x1 = some o13 → ∀ (H : Heap) (locs : List Loc) (ls : Array Slot), ep_W G ep_cl h s H locs → lv_has ls 2 [(0, .ref a0), (1, .int x1)] → wX4_keepDraft p l e s m below meth c G h a0 res 0 0 H locs (F0 m 52 ls []) := by
      intro fu
      induction fu with
      | zero => intro h x1 ho13; cases ho13
      | succ fu ih13 =>
        intro h x1 ho13 H locs ls hw hl
        rw [fX4_keepDraft_L52] at ho13
        refine lv_iload_n hx hb dX4_keepDraft_52 rfl (lv_at hl 1 rfl) ?_
        refine lv_bipush (v := iI 8) hx hb dX4_keepDraft_53 (by decide) ?_
        refine lv_aload_n hx hb dX4_keepDraft_55 rfl (lv_at hl 0 rfl) ?_
        obtain ⟨v14, ev14, ho13⟩ := ob_s ho13
        refine ep_get (C := RX4) (T := TX4) (N := 32) (ci := 4) hx hb hts in_X4 hown hK hw rfl 5 (by decide) q1144 (gI_f ev14) dX4_keepDraft_56 ?_
        refine lv_imul hx hb dX4_keepDraft_59 ?_
        refine lv_icmp_ge (tgt := 81) hx hb dX4_keepDraft_60 (by decide) (fun c15 => ?_) (fun c15 => ?_)
        · have ho13 := oi_t ho13 c15
          obtain rfl := Option.some.inj ho13
          exact hJ13 _ _ _ hw (lv_sub hl [0] rfl)
        · have ho13 := oi_f ho13 c15
          refine lv_aload_n hx hb dX4_keepDraft_63 rfl (lv_at hl 0 rfl) ?_
          obtain ⟨r16, er16, ho13⟩ := ob_s ho13
          refine ep_get (C := RX4) (T := TX4) (N := 32) (ci := 4) hx hb hts in_X4 hown hK hw rfl 6 (by decide) q1145 (gR_f er16) dX4_keepDraft_64 ?_
          refine lv_iload_n hx hb dX4_keepDraft_67 rfl (lv_at hl 1 rfl) ?_
          refine lv_aload_n hx hb dX4_keepDraft_68 rfl (lv_at hl 0 rfl) ?_
          obtain ⟨r17, er17, ho13⟩ := ob_s ho13
          refine ep_get (C := RX4) (T := TX4) (N := 32) (ci := 4) hx hb hts in_X4 hown hK hw rfl 11 (by decide) q1150 (gR_f er17) dX4_keepDraft_69 ?_
          refine lv_iload_n hx hb dX4_keepDraft_72 rfl (lv_at hl 1 rfl) ?_
          obtain ⟨v18, ev18, ho13⟩ := ob_s ho13
          refine ep_iald hx hb hK hw ev18 dX4_keepDraft_73 ?_
          obtain ⟨h19, eh19, ho13⟩ := ob_s ho13
          refine ep_iast hx hb hK hw eh19 dX4_keepDraft_74 (fun H locs hw => ?_)
          refine lv_iinc (v := (x1 + iI 1)) (lv' := [(1, .int (x1 + iI 1)), (0, .ref a0)]) hx hb dX4_keepDraft_75 hl (k := 1) rfl rfl (by decide) rfl (fun ls hl => ?_)
          refine lv_goto (tgt := 52) hx hb dX4_keepDraft_78 (by decide) ?_
          exact ih13 _ _ ho13 _ _ _ hw (lv_sub hl [1, 0] rfl)
    exact hL13 FUEL _ _ ho13 _ _ _ hw (lv_sub hl [1, 0] rfl)
  have hL1 : ∀ (fu : Nat) (h : Hp) (x1 : Int32), fX4_keepDraft_L2 a0 fu h x1 = some o1 → ∀ (H : Heap) (locs : List Loc) (ls : Array Slot), ep_W G ep_cl h s H locs → lv_has ls 2 [(0, .ref a0), (1, .int x1)] → wX4_keepDraft p l e s m below meth c G h a0 res 0 0 H locs (F0 m 2 ls []) := by
    intro fu
    induction fu with
    | zero => intro h x1 ho1; cases ho1
    | succ fu ih1 =>
      intro h x1 ho1 H locs ls hw hl
      rw [fX4_keepDraft_L2] at ho1
      refine lv_iload_n hx hb dX4_keepDraft_2 rfl (lv_at hl 1 rfl) ?_
      refine lv_bipush (v := iI 75) hx hb dX4_keepDraft_3 (by decide) ?_
      refine lv_icmp_ge (tgt := 26) hx hb dX4_keepDraft_5 (by decide) (fun c2 => ?_) (fun c2 => ?_)
      · have ho1 := oi_t ho1 c2
        obtain rfl := Option.some.inj ho1
        exact hJ1 _ _ _ hw (lv_sub hl [0] rfl)
      · have ho1 := oi_f ho1 c2
        refine lv_aload_n hx hb dX4_keepDraft_8 rfl (lv_at hl 0 rfl) ?_
        obtain ⟨r3, er3, ho1⟩ := ob_s ho1
        refine ep_get (C := RX4) (T := TX4) (N := 32) (ci := 4) hx hb hts in_X4 hown hK hw rfl 0 (by decide) q1139 (gR_f er3) dX4_keepDraft_9 ?_
        refine lv_iload_n hx hb dX4_keepDraft_12 rfl (lv_at hl 1 rfl) ?_
        refine lv_aload_n hx hb dX4_keepDraft_13 rfl (lv_at hl 0 rfl) ?_
        obtain ⟨r4, er4, ho1⟩ := ob_s ho1
        refine ep_get (C := RX4) (T := TX4) (N := 32) (ci := 4) hx hb hts in_X4 hown hK hw rfl 7 (by decide) q1146 (gR_f er4) dX4_keepDraft_14 ?_
        refine lv_iload_n hx hb dX4_keepDraft_17 rfl (lv_at hl 1 rfl) ?_
        obtain ⟨v5, ev5, ho1⟩ := ob_s ho1
        refine ep_iald hx hb hK hw ev5 dX4_keepDraft_18 ?_
        obtain ⟨h6, eh6, ho1⟩ := ob_s ho1
        refine ep_iast hx hb hK hw eh6 dX4_keepDraft_19 (fun H locs hw => ?_)
        refine lv_iinc (v := (x1 + iI 1)) (lv' := [(1, .int (x1 + iI 1)), (0, .ref a0)]) hx hb dX4_keepDraft_20 hl (k := 1) rfl rfl (by decide) rfl (fun ls hl => ?_)
        refine lv_goto (tgt := 2) hx hb dX4_keepDraft_23 (by decide) ?_
        exact ih1 _ _ ho1 _ _ _ hw (lv_sub hl [1, 0] rfl)
  exact hL1 FUEL _ _ ho1 _ _ _ hw (lv_sub hl [1, 0] rfl)
