/-! walks (printed by gen.py) -/
set_option maxRecDepth 100000
theorem hsX4_isSheet : yX4_isSheet.cls ≠ "java/lang/invoke/MethodHandle" ∧ yX4_isSheet.cls ≠ "java/lang/invoke/VarHandle" ∧ (parseMethodDescriptor yX4_isSheet.desc).map (fun d => d.parameters.length) = some 2 := by decide +kernel
abbrev wX4_isSheet (p : Program) (l : Launch) (e : Env) (s : State) (m : MethodId) (below : List Frame) (meth : Method) (c : Code) (G : EG) (h : Hp) (x0 : Int32) (x1 : Int32) (res : Int32) (k9 n9 : Nat) (H : Heap) (locs : List Loc) (g : JFrame) : Prop := W p l e (headSpec (ws_ yX4_isSheet cX4_isSheet 2 (some .boolean)) ({ frames := 1, cells := 0, slots := 0, locals := 25 } : Room)).room s m ([.int x0, .int x1] : List Value).toArray below meth c H locs k9 n9 (MQ below (ep_Qi G ep_cl h res) ([.int x0, .int x1] : List Value).toArray s 0 0 (ep_A G)) g
set_option maxHeartbeats 4000000 in
theorem metX4_isSheet (l : Launch) (G : EG) (h : Hp) (x0 : Int32) (x1 : Int32) {res : Int32} (hf : fX4_isSheet x0 x1 = some res) : Met l yX4_isSheet (ws_ yX4_isSheet cX4_isSheet 2 (some .boolean)) ({ frames := 1, cells := 0, slots := 0, locals := 25 } : Room) (ep_Pc G ep_cl h [.int x0, .int x1]) (ep_Qi G ep_cl h res) 0 0 (ep_A G) := by
  refine Met.ofW (cc := cX4_isSheet) (maxL := 2) (ret := (some .boolean)) (by decide) rfl ?_
  intro p e s m args below meth c s₁ B hml hv
  obtain ⟨rfl, hR, hK, hZ⟩ := hv
  have hx := B.exec
  have hb := B.bytes
  have hr := B.returns
  have hlocks := B.notSynchronized
  have hts := atoms_spec (ws := (ws_ yX4_isSheet cX4_isSheet 2 (some .boolean))) B.pre
  have hts : ∀ w ∈ lw_all, w.before _ s = true := fun w h => hts w (List.mem_cons_of_mem _ h)
  have hown : s.vm.findClass RX4 = some m.cls := findClass_of_methodNamed B.named
  have hw : ep_W G ep_cl h s s.heap [] := ⟨hR, va_S.rf⟩
  have hl := lv_entry ([.int x0, .int x1]) (n := 2) (Nat.le_of_ble_eq_true rfl)
  rw [lg_entry_eq]
  generalize (lg_sl ([.int x0, .int x1]) ++ List.replicate (2 - (lg_sl ([.int x0, .int x1])).length) Slot.unset).toArray = ls at hl ⊢
  have hl : lv_has ls 2 [(0, .int x0), (1, .int x1)] := hl
  unfold fX4_isSheet at hf
  show wX4_isSheet p l e s m below meth c G h x0 x1 res 0 0 s.heap ([]) (F0 m 0 ls [])
  refine lv_iload_n hx hb dX4_isSheet_0 rfl (lv_at hl 0 rfl) ?_
  refine lv_i2l (v := x0.toInt64) hx hb dX4_isSheet_1 rfl ?_
  refine lv_lconst (v := lI 0) hx hb dX4_isSheet_2 (by decide) ?_
  refine lv_ldc2 (v := (3 : Int64)) hx hb hown (hts _ q1409) dX4_isSheet_3 ?_
  obtain ⟨v1, ev1, hf⟩ := ob_s hf
  refine ep_calli0 (va_runS (As := [.long x0.toInt64, .long (lI 0), .long (3 : Int64)]) (rest := []) ⟨hx, hb, hml, hown, hts⟩ (metX4_in l G h x0.toInt64 (lI 0) (3 : Int64) ev1) (va_cwS 3 hts (lw_S q1242 q1243 q89 q1244) rfl rfl rfl hsX4_in ⟨Nat.le_of_ble_eq_true rfl, Nat.le_of_ble_eq_true rfl⟩) (ep_preS hK hZ hw) rfl rfl hl.1 rfl (lv_room (Nat.le_of_ble_eq_true rfl)) dX4_isSheet_6 ⟨Nat.le_of_ble_eq_true rfl, Nat.le_of_ble_eq_true rfl⟩) hw (fun H locs hw => ?_)
  refine lv_if_eq (tgt := 28) hx hb dX4_isSheet_9 (by decide) (fun c2 => ?_) (fun c2 => ?_)
  · have hf := oi_t hf c2
    refine lv_iconst (v := iI 0) hx hb dX4_isSheet_28 rfl ?_
    exact ep_retzR hx hb hr rfl hlocks hw hf dX4_isSheet_29
  · have hf := oi_f hf c2
    refine lv_iload_n hx hb dX4_isSheet_12 rfl (lv_at hl 1 rfl) ?_
    refine lv_i2l (v := x1.toInt64) hx hb dX4_isSheet_13 rfl ?_
    refine lv_lconst (v := lI 0) hx hb dX4_isSheet_14 (by decide) ?_
    refine lv_ldc2 (v := (2 : Int64)) hx hb hown (hts _ q1347) dX4_isSheet_15 ?_
    obtain ⟨v3, ev3, hf⟩ := ob_s hf
    refine ep_calli0 (va_runS (As := [.long x1.toInt64, .long (lI 0), .long (2 : Int64)]) (rest := []) ⟨hx, hb, hml, hown, hts⟩ (metX4_in l G h x1.toInt64 (lI 0) (2 : Int64) ev3) (va_cwS 3 hts (lw_S q1242 q1243 q89 q1244) rfl rfl rfl hsX4_in ⟨Nat.le_of_ble_eq_true rfl, Nat.le_of_ble_eq_true rfl⟩) (ep_preS hK hZ hw) rfl rfl hl.1 rfl (lv_room (Nat.le_of_ble_eq_true rfl)) dX4_isSheet_18 ⟨Nat.le_of_ble_eq_true rfl, Nat.le_of_ble_eq_true rfl⟩) hw (fun H locs hw => ?_)
    refine lv_if_eq (tgt := 28) hx hb dX4_isSheet_21 (by decide) (fun c4 => ?_) (fun c4 => ?_)
    · have hf := oi_t hf c4
      refine lv_iconst (v := iI 0) hx hb dX4_isSheet_28 rfl ?_
      exact ep_retzR hx hb hr rfl hlocks hw hf dX4_isSheet_29
    · have hf := oi_f hf c4
      refine lv_iconst (v := iI 1) hx hb dX4_isSheet_24 rfl ?_
      refine lv_goto (tgt := 29) hx hb dX4_isSheet_25 (by decide) ?_
      exact ep_retzR hx hb hr rfl hlocks hw hf dX4_isSheet_29
theorem hdX4_sheet : yX4_sheet.cls = RX4 ∧ yX4_sheet.cls ≠ "java/lang/invoke/MethodHandle" ∧ yX4_sheet.cls ≠ "java/lang/invoke/VarHandle" ∧ (parseMethodDescriptor yX4_sheet.desc).map (fun d => d.parameters.length) = some 3 := by decide +kernel
theorem ckX4_sheet {h : Hp} {a0 : Nat} {x1 : Int32} {x2 : Int32} {x3 : Int32} {res : Int32 × Hp} (hf : fX4_sheet h a0 x1 x2 x3 = some res) : ep_cls h a0 = some 4 := by
  unfold fX4_sheet at hf
  exact (oi_c hf).1
abbrev wX4_sheet (p : Program) (l : Launch) (e : Env) (s : State) (m : MethodId) (below : List Frame) (meth : Method) (c : Code) (G : EG) (h : Hp) (a0 : Nat) (x1 : Int32) (x2 : Int32) (x3 : Int32) (res : Int32 × Hp) (k9 n9 : Nat) (H : Heap) (locs : List Loc) (g : JFrame) : Prop := W p l e (headSpec (ws_ yX4_sheet cX4_sheet 5 (some .int)) ({ frames := 2, cells := 0, slots := 0, locals := 46 } : Room)).room s m ([.ref a0, .int x1, .int x2, .int x3] : List Value).toArray below meth c H locs k9 n9 (MQ below (ep_Qi G ep_cl res.2 res.1) ([.ref a0, .int x1, .int x2, .int x3] : List Value).toArray s 0 0 (ep_A G)) g
set_option maxHeartbeats 4000000 in
theorem metX4_sheet (l : Launch) (G : EG) (h : Hp) (a0 : Nat) (x1 : Int32) (x2 : Int32) (x3 : Int32) {res : Int32 × Hp} (hf : fX4_sheet h a0 x1 x2 x3 = some res) : Met l yX4_sheet (ws_ yX4_sheet cX4_sheet 5 (some .int)) ({ frames := 2, cells := 0, slots := 0, locals := 46 } : Room) (ep_Pc G ep_cl h [.ref a0, .int x1, .int x2, .int x3]) (ep_Qi G ep_cl res.2 res.1) 0 0 (ep_A G) := by
  refine Met.ofW (cc := cX4_sheet) (maxL := 5) (ret := (some .int)) (by decide) rfl ?_
  intro p e s m args below meth c s₁ B hml hv
  obtain ⟨rfl, hR, hK, hZ⟩ := hv
  have hx := B.exec
  have hb := B.bytes
  have hr := B.returns
  have hlocks := B.notSynchronized
  have hts := atoms_spec (ws := (ws_ yX4_sheet cX4_sheet 5 (some .int))) B.pre
  have hts : ∀ w ∈ lw_all, w.before _ s = true := fun w h => hts w (List.mem_cons_of_mem _ h)
  have hown : s.vm.findClass RX4 = some m.cls := findClass_of_methodNamed B.named
  have hw : ep_W G ep_cl h s s.heap [] := ⟨hR, va_S.rf⟩
  have hl := lv_entry ([.ref a0, .int x1, .int x2, .int x3]) (n := 5) (Nat.le_of_ble_eq_true rfl)
  rw [lg_entry_eq]
  generalize (lg_sl ([.ref a0, .int x1, .int x2, .int x3]) ++ List.replicate (5 - (lg_sl ([.ref a0, .int x1, .int x2, .int x3])).length) Slot.unset).toArray = ls at hl ⊢
  have hl : lv_has ls 5 [(0, .ref a0), (1, .int x1), (2, .int x2), (3, .int x3)] := hl
  unfold fX4_sheet at hf
  have hf := (oi_c hf).2
  show wX4_sheet p l e s m below meth c G h a0 x1 x2 x3 res 0 0 s.heap ([]) (F0 m 0 ls [])
  refine lv_iload_n hx hb dX4_sheet_0 rfl (lv_at hl 1 rfl) ?_
  refine lv_iload_n hx hb dX4_sheet_1 rfl (lv_at hl 2 rfl) ?_
  obtain ⟨v1, ev1, hf⟩ := ob_s hf
  refine ep_calli0 (va_runS (As := [.int x1, .int x2]) (rest := []) ⟨hx, hb, hml, hown, hts⟩ (metX4_isSheet l G h x1 x2 ev1) (va_cwS 2 hts (lw_S q1615 q1616 q89 q1617) rfl rfl rfl hsX4_isSheet ⟨Nat.le_of_ble_eq_true rfl, Nat.le_of_ble_eq_true rfl⟩) (ep_preS hK hZ hw) rfl rfl hl.1 rfl (lv_room (Nat.le_of_ble_eq_true rfl)) dX4_sheet_2 ⟨Nat.le_of_ble_eq_true rfl, Nat.le_of_ble_eq_true rfl⟩) hw (fun H locs hw => ?_)
  refine lv_if_eq (tgt := 14) hx hb dX4_sheet_5 (by decide) (fun c2 => ?_) (fun c2 => ?_)
  · have hf := oi_t hf c2
    refine lv_iconst (v := iI (-1)) hx hb dX4_sheet_14 rfl ?_
    exact ep_retiW hx hb hr hlocks hw hf dX4_sheet_15
  · have hf := oi_f hf c2
    refine lv_iload_n hx hb dX4_sheet_8 rfl (lv_at hl 3 rfl) ?_
    refine lv_bipush (v := iI 40) hx hb dX4_sheet_9 (by decide) ?_
    refine lv_icmp_le (tgt := 16) hx hb dX4_sheet_11 (by decide) (fun c3 => ?_) (fun c3 => ?_)
    · have hf := oi_t hf c3
      refine lv_iload_n hx hb dX4_sheet_16 rfl (lv_at hl 3 rfl) ?_
      refine lv_if_ge (tgt := 23) hx hb dX4_sheet_17 (by decide) (fun c4 => ?_) (fun c4 => ?_)
      · have hf := oi_t hf c4
        refine lv_aload_n hx hb dX4_sheet_23 rfl (lv_at hl 0 rfl) ?_
        obtain ⟨r5, er5, hf⟩ := ob_s hf
        refine ep_get (C := RX4) (T := TX4) (N := 32) (ci := 4) hx hb hts in_X4 hown hK hw rfl 27 (by decide) q1166 (gR_f er5) dX4_sheet_24 ?_
        refine lv_iload_n hx hb dX4_sheet_27 rfl (lv_at hl 1 rfl) ?_
        refine lv_iload_n hx hb dX4_sheet_28 rfl (lv_at hl 2 rfl) ?_
        obtain ⟨h6, eh6, hf⟩ := ob_s hf
        refine ep_iast hx hb hK hw eh6 dX4_sheet_29 (fun H locs hw => ?_)
        refine lv_aload_n hx hb dX4_sheet_30 rfl (lv_at hl 0 rfl) ?_
        obtain ⟨r7, er7, hf⟩ := ob_s hf
        refine ep_get (C := RX4) (T := TX4) (N := 32) (ci := 4) hx hb hts in_X4 hown hK hw rfl 28 (by decide) q1167 (gR_f er7) dX4_sheet_31 ?_
        refine lv_iload_n hx hb dX4_sheet_34 rfl (lv_at hl 1 rfl) ?_
        refine lv_iload_n hx hb dX4_sheet_35 rfl (lv_at hl 3 rfl) ?_
        obtain ⟨h8, eh8, hf⟩ := ob_s hf
        refine ep_iast hx hb hK hw eh8 dX4_sheet_36 (fun H locs hw => ?_)
        refine lv_iconst (v := iI 0) hx hb dX4_sheet_37 rfl ?_
        refine lv_istore (lv' := [(4, .int (iI 0)), (0, .ref a0), (1, .int x1), (2, .int x2), (3, .int x3)]) hx hb dX4_sheet_38 hl (by decide) rfl (fun ls hl => ?_)
        obtain ⟨o9, ho9, hf⟩ := ob_s hf
        have hJ9 : ∀ (H : Heap) (locs : List Loc) (ls : Array Slot), ep_W G ep_cl o9 s H locs → lv_has ls 5 [] → wX4_sheet p l e s m below meth c G h a0 x1 x2 x3 res 0 0 H locs (F0 m 66 ls []) := by
          intro H locs ls hw hl
          refine lv_iconst (v := iI 1) hx hb dX4_sheet_66 rfl ?_
          exact ep_retiW hx hb hr hlocks hw hf dX4_sheet_67
        have hL9 : ∀ (fu : Nat) (h : Hp) (x4 : Int32), fX4_sheet_L40 a0 x1 fu h x4 = some o9 → ∀ (H : Heap) (locs : List Loc) (ls : Array Slot), ep_W G ep_cl h s H locs → lv_has ls 5 [(0, .ref a0), (1, .int x1), (4, .int x4)] → wX4_sheet p l e s m below meth c G h a0 x1 x2 x3 res 0 0 H locs (F0 m 40 ls []) := by
          intro fu
          induction fu with
          | zero => intro h x4 ho9; cases ho9
          | succ fu ih9 =>
            intro h x4 ho9 H locs ls hw hl
            rw [fX4_sheet_L40] at ho9
            refine lv_iload hx hb dX4_sheet_40 (lv_at hl 2 rfl) ?_
            refine lv_bipush (v := iI 40) hx hb dX4_sheet_42 (by decide) ?_
            refine lv_icmp_ge (tgt := 66) hx hb dX4_sheet_44 (by decide) (fun c10 => ?_) (fun c10 => ?_)
            · have ho9 := oi_t ho9 c10
              obtain rfl := Option.some.inj ho9
              exact hJ9 _ _ _ hw (lv_sub hl [] rfl)
            · have ho9 := oi_f ho9 c10
              refine lv_aload_n hx hb dX4_sheet_47 rfl (lv_at hl 0 rfl) ?_
              obtain ⟨r11, er11, ho9⟩ := ob_s ho9
              refine ep_get (C := RX4) (T := TX4) (N := 32) (ci := 4) hx hb hts in_X4 hown hK hw rfl 29 (by decide) q1168 (gR_f er11) dX4_sheet_48 ?_
              refine lv_bipush (v := iI 40) hx hb dX4_sheet_51 (by decide) ?_
              refine lv_iload_n hx hb dX4_sheet_53 rfl (lv_at hl 1 rfl) ?_
              refine lv_imul hx hb dX4_sheet_54 ?_
              refine lv_iload hx hb dX4_sheet_55 (lv_at hl 2 rfl) ?_
              refine lv_iadd hx hb dX4_sheet_57 ?_
              refine lv_iconst (v := iI 0) hx hb dX4_sheet_58 rfl ?_
              obtain ⟨h12, eh12, ho9⟩ := ob_s ho9
              refine ep_iast hx hb hK hw eh12 dX4_sheet_59 (fun H locs hw => ?_)
              refine lv_iinc (v := (x4 + iI 1)) (lv' := [(4, .int (x4 + iI 1)), (0, .ref a0), (1, .int x1)]) hx hb dX4_sheet_60 hl (k := 2) rfl rfl (by decide) rfl (fun ls hl => ?_)
              refine lv_goto (tgt := 40) hx hb dX4_sheet_63 (by decide) ?_
              exact ih9 _ _ ho9 _ _ _ hw (lv_sub hl [1, 2, 0] rfl)
        exact hL9 FUEL _ _ ho9 _ _ _ hw (lv_sub hl [1, 2, 0] rfl)
      · have hf := oi_f hf c4
        refine lv_bipush (v := iI (-14)) hx hb dX4_sheet_20 (by decide) ?_
        exact ep_retiW hx hb hr hlocks hw hf dX4_sheet_22
    · have hf := oi_f hf c3
      refine lv_iconst (v := iI (-1)) hx hb dX4_sheet_14 rfl ?_
      exact ep_retiW hx hb hr hlocks hw hf dX4_sheet_15
theorem hdX4_lay : yX4_lay.cls = RX4 ∧ yX4_lay.cls ≠ "java/lang/invoke/MethodHandle" ∧ yX4_lay.cls ≠ "java/lang/invoke/VarHandle" ∧ (parseMethodDescriptor yX4_lay.desc).map (fun d => d.parameters.length) = some 3 := by decide +kernel
theorem ckX4_lay {h : Hp} {a0 : Nat} {x1 : Int32} {x2 : Int32} {x3 : Int32} {res : Int32 × Hp} (hf : fX4_lay h a0 x1 x2 x3 = some res) : ep_cls h a0 = some 4 := by
  unfold fX4_lay at hf
  exact (oi_c hf).1
abbrev wX4_lay (p : Program) (l : Launch) (e : Env) (s : State) (m : MethodId) (below : List Frame) (meth : Method) (c : Code) (G : EG) (h : Hp) (a0 : Nat) (x1 : Int32) (x2 : Int32) (x3 : Int32) (res : Int32 × Hp) (k9 n9 : Nat) (H : Heap) (locs : List Loc) (g : JFrame) : Prop := W p l e (headSpec (ws_ yX4_lay cX4_lay 4 (some .int)) ({ frames := 2, cells := 0, slots := 0, locals := 46 } : Room)).room s m ([.ref a0, .int x1, .int x2, .int x3] : List Value).toArray below meth c H locs k9 n9 (MQ below (ep_Qi G ep_cl res.2 res.1) ([.ref a0, .int x1, .int x2, .int x3] : List Value).toArray s 0 0 (ep_A G)) g
set_option maxHeartbeats 4000000 in
theorem metX4_lay (l : Launch) (G : EG) (h : Hp) (a0 : Nat) (x1 : Int32) (x2 : Int32) (x3 : Int32) {res : Int32 × Hp} (hf : fX4_lay h a0 x1 x2 x3 = some res) : Met l yX4_lay (ws_ yX4_lay cX4_lay 4 (some .int)) ({ frames := 2, cells := 0, slots := 0, locals := 46 } : Room) (ep_Pc G ep_cl h [.ref a0, .int x1, .int x2, .int x3]) (ep_Qi G ep_cl res.2 res.1) 0 0 (ep_A G) := by
  refine Met.ofW (cc := cX4_lay) (maxL := 4) (ret := (some .int)) (by decide) rfl ?_
  intro p e s m args below meth c s₁ B hml hv
  obtain ⟨rfl, hR, hK, hZ⟩ := hv
  have hx := B.exec
  have hb := B.bytes
  have hr := B.returns
  have hlocks := B.notSynchronized
  have hts := atoms_spec (ws := (ws_ yX4_lay cX4_lay 4 (some .int))) B.pre
  have hts : ∀ w ∈ lw_all, w.before _ s = true := fun w h => hts w (List.mem_cons_of_mem _ h)
  have hown : s.vm.findClass RX4 = some m.cls := findClass_of_methodNamed B.named
  have hw : ep_W G ep_cl h s s.heap [] := ⟨hR, va_S.rf⟩
  have hl := lv_entry ([.ref a0, .int x1, .int x2, .int x3]) (n := 4) (Nat.le_of_ble_eq_true rfl)
  rw [lg_entry_eq]
  generalize (lg_sl ([.ref a0, .int x1, .int x2, .int x3]) ++ List.replicate (4 - (lg_sl ([.ref a0, .int x1, .int x2, .int x3])).length) Slot.unset).toArray = ls at hl ⊢
  have hl : lv_has ls 4 [(0, .ref a0), (1, .int x1), (2, .int x2), (3, .int x3)] := hl
  unfold fX4_lay at hf
  have hf := (oi_c hf).2
  show wX4_lay p l e s m below meth c G h a0 x1 x2 x3 res 0 0 s.heap ([]) (F0 m 0 ls [])
  refine lv_iload_n hx hb dX4_lay_0 rfl (lv_at hl 1 rfl) ?_
  refine lv_iconst (v := iI 0) hx hb dX4_lay_1 rfl ?_
  obtain ⟨v1, ev1, hf⟩ := ob_s hf
  refine ep_calli0 (va_runS (As := [.int x1, .int (iI 0)]) (rest := []) ⟨hx, hb, hml, hown, hts⟩ (metX4_isSheet l G h x1 (iI 0) ev1) (va_cwS 2 hts (lw_S q1615 q1616 q89 q1617) rfl rfl rfl hsX4_isSheet ⟨Nat.le_of_ble_eq_true rfl, Nat.le_of_ble_eq_true rfl⟩) (ep_preS hK hZ hw) rfl rfl hl.1 rfl (lv_room (Nat.le_of_ble_eq_true rfl)) dX4_lay_2 ⟨Nat.le_of_ble_eq_true rfl, Nat.le_of_ble_eq_true rfl⟩) hw (fun H locs hw => ?_)
  refine lv_if_ne (tgt := 10) hx hb dX4_lay_5 (by decide) (fun c2 => ?_) (fun c2 => ?_)
  · have hf := oi_f hf c2
    refine lv_aload_n hx hb dX4_lay_10 rfl (lv_at hl 0 rfl) ?_
    obtain ⟨r3, er3, hf⟩ := ob_s hf
    refine ep_get (C := RX4) (T := TX4) (N := 32) (ci := 4) hx hb hts in_X4 hown hK hw rfl 27 (by decide) q1166 (gR_f er3) dX4_lay_11 ?_
    refine lv_iload_n hx hb dX4_lay_14 rfl (lv_at hl 1 rfl) ?_
    obtain ⟨v4, ev4, hf⟩ := ob_s hf
    refine ep_iald hx hb hK hw ev4 dX4_lay_15 ?_
    refine lv_bipush (v := iI (-4)) hx hb dX4_lay_16 (by decide) ?_
    refine lv_icmp_ne (tgt := 24) hx hb dX4_lay_18 (by decide) (fun c5 => ?_) (fun c5 => ?_)
    · have hf := oi_f hf c5
      refine lv_iload_n hx hb dX4_lay_24 rfl (lv_at hl 2 rfl) ?_
      refine lv_i2l (v := x2.toInt64) hx hb dX4_lay_25 rfl ?_
      refine lv_lconst (v := lI 0) hx hb dX4_lay_26 (by decide) ?_
      refine lv_aload_n hx hb dX4_lay_27 rfl (lv_at hl 0 rfl) ?_
      obtain ⟨r6, er6, hf⟩ := ob_s hf
      refine ep_get (C := RX4) (T := TX4) (N := 32) (ci := 4) hx hb hts in_X4 hown hK hw rfl 28 (by decide) q1167 (gR_f er6) dX4_lay_28 ?_
      refine lv_iload_n hx hb dX4_lay_31 rfl (lv_at hl 1 rfl) ?_
      obtain ⟨v7, ev7, hf⟩ := ob_s hf
      refine ep_iald hx hb hK hw ev7 dX4_lay_32 ?_
      refine lv_iconst (v := iI 1) hx hb dX4_lay_33 rfl ?_
      refine lv_isub hx hb dX4_lay_34 ?_
      refine lv_i2l (v := (v7 - (iI 1)).toInt64) hx hb dX4_lay_35 rfl ?_
      obtain ⟨v8, ev8, hf⟩ := ob_s hf
      refine ep_calli0 (va_runS (As := [.long x2.toInt64, .long (lI 0), .long ((v7 - (iI 1)).toInt64)]) (rest := []) ⟨hx, hb, hml, hown, hts⟩ (metX4_in l G h x2.toInt64 (lI 0) ((v7 - (iI 1)).toInt64) ev8) (va_cwS 3 hts (lw_S q1242 q1243 q89 q1244) rfl rfl rfl hsX4_in ⟨Nat.le_of_ble_eq_true rfl, Nat.le_of_ble_eq_true rfl⟩) (ep_preS hK hZ hw) rfl rfl hl.1 rfl (lv_room (Nat.le_of_ble_eq_true rfl)) dX4_lay_36 ⟨Nat.le_of_ble_eq_true rfl, Nat.le_of_ble_eq_true rfl⟩) hw (fun H locs hw => ?_)
      refine lv_if_ne (tgt := 45) hx hb dX4_lay_39 (by decide) (fun c9 => ?_) (fun c9 => ?_)
      · have hf := oi_f hf c9
        refine lv_aload_n hx hb dX4_lay_45 rfl (lv_at hl 0 rfl) ?_
        obtain ⟨r10, er10, hf⟩ := ob_s hf
        refine ep_get (C := RX4) (T := TX4) (N := 32) (ci := 4) hx hb hts in_X4 hown hK hw rfl 29 (by decide) q1168 (gR_f er10) dX4_lay_46 ?_
        refine lv_bipush (v := iI 40) hx hb dX4_lay_49 (by decide) ?_
        refine lv_iload_n hx hb dX4_lay_51 rfl (lv_at hl 1 rfl) ?_
        refine lv_imul hx hb dX4_lay_52 ?_
        refine lv_iload_n hx hb dX4_lay_53 rfl (lv_at hl 2 rfl) ?_
        refine lv_iadd hx hb dX4_lay_54 ?_
        refine lv_aload_n hx hb dX4_lay_55 rfl (lv_at hl 0 rfl) ?_
        obtain ⟨r11, er11, hf⟩ := ob_s hf
        refine ep_get (C := RX4) (T := TX4) (N := 32) (ci := 4) hx hb hts in_X4 hown hK hw rfl 27 (by decide) q1166 (gR_f er11) dX4_lay_56 ?_
        refine lv_iload_n hx hb dX4_lay_59 rfl (lv_at hl 1 rfl) ?_
        obtain ⟨v12, ev12, hf⟩ := ob_s hf
        refine ep_iald hx hb hK hw ev12 dX4_lay_60 ?_
        obtain ⟨o13, ho13, hf⟩ := ob_s hf
        have hJ13 : ∀ (H : Heap) (locs : List Loc) (ls : Array Slot), ep_W G ep_cl h s H locs → lv_has ls 4 [] → wX4_lay p l e s m below meth c G h a0 x1 x2 x3 res 0 0 H locs (F0 m 85 ls [.int o13, .int (((iI 40) * x1) + x2), .ref r10]) := by
          intro H locs ls hw hl
          obtain ⟨h18, eh18, hf⟩ := ob_s hf
          refine ep_iast hx hb hK hw eh18 dX4_lay_85 (fun H locs hw => ?_)
          refine lv_iconst (v := iI 1) hx hb dX4_lay_86 rfl ?_
          exact ep_retiW hx hb hr hlocks hw hf dX4_lay_87
        refine lv_if_ne (tgt := 69) hx hb dX4_lay_61 (by decide) (fun c14 => ?_) (fun c14 => ?_)
        · have ho13 := oi_f ho13 c14
          refine lv_aload_n hx hb dX4_lay_69 rfl (lv_at hl 0 rfl) ?_
          obtain ⟨r15, er15, ho13⟩ := ob_s ho13
          refine ep_get (C := RX4) (T := TX4) (N := 32) (ci := 4) hx hb hts in_X4 hown hK hw rfl 27 (by decide) q1166 (gR_f er15) dX4_lay_70 ?_
          refine lv_iload_n hx hb dX4_lay_73 rfl (lv_at hl 1 rfl) ?_
          obtain ⟨v16, ev16, ho13⟩ := ob_s ho13
          refine ep_iald hx hb hK hw ev16 dX4_lay_74 ?_
          refine lv_iconst (v := iI 1) hx hb dX4_lay_75 rfl ?_
          refine lv_icmp_ne (tgt := 84) hx hb dX4_lay_76 (by decide) (fun c17 => ?_) (fun c17 => ?_)
          · have ho13 := oi_f ho13 c17
            refine lv_iload_n hx hb dX4_lay_84 rfl (lv_at hl 3 rfl) ?_
            obtain rfl := Option.some.inj ho13
            exact hJ13 _ _ _ hw (lv_sub hl [] rfl)
          · have ho13 := oi_t ho13 c17
            refine lv_iload_n hx hb dX4_lay_79 rfl (lv_at hl 3 rfl) ?_
            refine lv_i2s (v := x3.toInt16.toInt32) hx hb dX4_lay_80 rfl ?_
            refine lv_goto (tgt := 85) hx hb dX4_lay_81 (by decide) ?_
            obtain rfl := Option.some.inj ho13
            exact hJ13 _ _ _ hw (lv_sub hl [] rfl)
        · have ho13 := oi_t ho13 c14
          refine lv_iload_n hx hb dX4_lay_64 rfl (lv_at hl 3 rfl) ?_
          refine lv_i2b (v := x3.toInt8.toInt32) hx hb dX4_lay_65 rfl ?_
          refine lv_goto (tgt := 85) hx hb dX4_lay_66 (by decide) ?_
          obtain rfl := Option.some.inj ho13
          exact hJ13 _ _ _ hw (lv_sub hl [] rfl)
      · have hf := oi_t hf c9
        refine lv_bipush (v := iI (-12)) hx hb dX4_lay_42 (by decide) ?_
        exact ep_retiW hx hb hr hlocks hw hf dX4_lay_44
    · have hf := oi_t hf c5
      refine lv_bipush (v := iI (-11)) hx hb dX4_lay_21 (by decide) ?_
      exact ep_retiW hx hb hr hlocks hw hf dX4_lay_23
  · have hf := oi_t hf c2
    refine lv_iconst (v := iI (-1)) hx hb dX4_lay_8 rfl ?_
    exact ep_retiW hx hb hr hlocks hw hf dX4_lay_9
theorem hdX4_read : yX4_read.cls = RX4 ∧ yX4_read.cls ≠ "java/lang/invoke/MethodHandle" ∧ yX4_read.cls ≠ "java/lang/invoke/VarHandle" ∧ (parseMethodDescriptor yX4_read.desc).map (fun d => d.parameters.length) = some 4 := by decide +kernel
theorem ckX4_read {h : Hp} {a0 : Nat} {x1 : Int32} {x2 : Int32} {x3 : Int32} {x4 : Int32} {res : Int32 × Hp} (hf : fX4_read h a0 x1 x2 x3 x4 = some res) : ep_cls h a0 = some 4 := by
  unfold fX4_read at hf
  exact (oi_c hf).1
abbrev wX4_read (p : Program) (l : Launch) (e : Env) (s : State) (m : MethodId) (below : List Frame) (meth : Method) (c : Code) (G : EG) (h : Hp) (a0 : Nat) (x1 : Int32) (x2 : Int32) (x3 : Int32) (x4 : Int32) (res : Int32 × Hp) (k9 n9 : Nat) (H : Heap) (locs : List Loc) (g : JFrame) : Prop := W p l e (headSpec (ws_ yX4_read cX4_read 11 (some .int)) ({ frames := 3, cells := 0, slots := 0, locals := 68 } : Room)).room s m ([.ref a0, .int x1, .int x2, .int x3, .int x4] : List Value).toArray below meth c H locs k9 n9 (MQ below (ep_Qi G ep_cl res.2 res.1) ([.ref a0, .int x1, .int x2, .int x3, .int x4] : List Value).toArray s 0 0 (ep_A G)) g
set_option maxHeartbeats 4000000 in
theorem metX4_read (l : Launch) (G : EG) (h : Hp) (a0 : Nat) (x1 : Int32) (x2 : Int32) (x3 : Int32) (x4 : Int32) {res : Int32 × Hp} (hf : fX4_read h a0 x1 x2 x3 x4 = some res) : Met l yX4_read (ws_ yX4_read cX4_read 11 (some .int)) ({ frames := 3, cells := 0, slots := 0, locals := 68 } : Room) (ep_Pc G ep_cl h [.ref a0, .int x1, .int x2, .int x3, .int x4]) (ep_Qi G ep_cl res.2 res.1) 0 0 (ep_A G) := by
  refine Met.ofW (cc := cX4_read) (maxL := 11) (ret := (some .int)) (by decide) rfl ?_
  intro p e s m args below meth c s₁ B hml hv
  obtain ⟨rfl, hR, hK, hZ⟩ := hv
  have hx := B.exec
  have hb := B.bytes
  have hr := B.returns
  have hlocks := B.notSynchronized
  have hts := atoms_spec (ws := (ws_ yX4_read cX4_read 11 (some .int))) B.pre
  have hts : ∀ w ∈ lw_all, w.before _ s = true := fun w h => hts w (List.mem_cons_of_mem _ h)
  have hown : s.vm.findClass RX4 = some m.cls := findClass_of_methodNamed B.named
  have hw : ep_W G ep_cl h s s.heap [] := ⟨hR, va_S.rf⟩
  have hl := lv_entry ([.ref a0, .int x1, .int x2, .int x3, .int x4]) (n := 11) (Nat.le_of_ble_eq_true rfl)
  rw [lg_entry_eq]
  generalize (lg_sl ([.ref a0, .int x1, .int x2, .int x3, .int x4]) ++ List.replicate (11 - (lg_sl ([.ref a0, .int x1, .int x2, .int x3, .int x4])).length) Slot.unset).toArray = ls at hl ⊢
  have hl : lv_has ls 11 [(0, .ref a0), (1, .int x1), (2, .int x2), (3, .int x3), (4, .int x4)] := hl
  unfold fX4_read at hf
  have hf := (oi_c hf).2
  show wX4_read p l e s m below meth c G h a0 x1 x2 x3 x4 res 0 0 s.heap ([]) (F0 m 0 ls [])
  refine lv_iload_n hx hb dX4_read_0 rfl (lv_at hl 1 rfl) ?_
  refine lv_iload_n hx hb dX4_read_1 rfl (lv_at hl 2 rfl) ?_
  obtain ⟨v1, ev1, hf⟩ := ob_s hf
  refine ep_calli0 (va_runS (As := [.int x1, .int x2]) (rest := []) ⟨hx, hb, hml, hown, hts⟩ (metX4_isSheet l G h x1 x2 ev1) (va_cwS 2 hts (lw_S q1615 q1616 q89 q1617) rfl rfl rfl hsX4_isSheet ⟨Nat.le_of_ble_eq_true rfl, Nat.le_of_ble_eq_true rfl⟩) (ep_preS hK hZ hw) rfl rfl hl.1 rfl (lv_room (Nat.le_of_ble_eq_true rfl)) dX4_read_2 ⟨Nat.le_of_ble_eq_true rfl, Nat.le_of_ble_eq_true rfl⟩) hw (fun H locs hw => ?_)
  refine lv_if_eq (tgt := 21) hx hb dX4_read_5 (by decide) (fun c2 => ?_) (fun c2 => ?_)
  · have hf := oi_t hf c2
    refine lv_iconst (v := iI (-1)) hx hb dX4_read_21 rfl ?_
    exact ep_retiW hx hb hr hlocks hw hf dX4_read_22
  · have hf := oi_f hf c2
    refine lv_iload hx hb dX4_read_8 (lv_at hl 4 rfl) ?_
    refine lv_i2l (v := x4.toInt64) hx hb dX4_read_10 rfl ?_
    refine lv_lconst (v := lI 0) hx hb dX4_read_11 (by decide) ?_
    refine lv_ldc2 (v := (20 : Int64)) hx hb hown (hts _ q1626) dX4_read_12 ?_
    obtain ⟨v3, ev3, hf⟩ := ob_s hf
    refine ep_calli0 (va_runS (As := [.long x4.toInt64, .long (lI 0), .long (20 : Int64)]) (rest := []) ⟨hx, hb, hml, hown, hts⟩ (metX4_in l G h x4.toInt64 (lI 0) (20 : Int64) ev3) (va_cwS 3 hts (lw_S q1242 q1243 q89 q1244) rfl rfl rfl hsX4_in ⟨Nat.le_of_ble_eq_true rfl, Nat.le_of_ble_eq_true rfl⟩) (ep_preS hK hZ hw) rfl rfl hl.1 rfl (lv_room (Nat.le_of_ble_eq_true rfl)) dX4_read_15 ⟨Nat.le_of_ble_eq_true rfl, Nat.le_of_ble_eq_true rfl⟩) hw (fun H locs hw => ?_)
    refine lv_if_ne (tgt := 23) hx hb dX4_read_18 (by decide) (fun c4 => ?_) (fun c4 => ?_)
    · have hf := oi_f hf c4
      refine lv_iconst (v := iI 0) hx hb dX4_read_23 rfl ?_
      refine lv_istore (lv' := [(5, .int (iI 0)), (0, .ref a0), (1, .int x1), (2, .int x2), (3, .int x3), (4, .int x4)]) hx hb dX4_read_24 hl (by decide) rfl (fun ls hl => ?_)
      obtain ⟨o5, ho5, hf⟩ := ob_s hf
      have hJ5 : ∀ (H : Heap) (locs : List Loc) (ls : Array Slot), ep_W G ep_cl o5 s H locs → lv_has ls 11 [(0, .ref a0), (1, .int x1), (2, .int x2), (3, .int x3), (4, .int x4)] → wX4_read p l e s m below meth c G h a0 x1 x2 x3 x4 res 0 0 H locs (F0 m 53 ls []) := by
        intro H locs ls hw hl
        refine lv_iconst (v := iI 0) hx hb dX4_read_53 rfl ?_
        refine lv_istore (lv' := [(5, .int (iI 0)), (0, .ref a0), (1, .int x1), (2, .int x2), (3, .int x3), (4, .int x4)]) hx hb dX4_read_54 hl (by decide) rfl (fun ls hl => ?_)
        refine lv_iconst (v := iI 0) hx hb dX4_read_56 rfl ?_
        refine lv_istore (lv' := [(6, .int (iI 0)), (5, .int (iI 0)), (0, .ref a0), (1, .int x1), (2, .int x2), (3, .int x3), (4, .int x4)]) hx hb dX4_read_57 hl (by decide) rfl (fun ls hl => ?_)
        refine lv_iconst (v := iI 0) hx hb dX4_read_59 rfl ?_
        refine lv_istore (lv' := [(7, .int (iI 0)), (6, .int (iI 0)), (5, .int (iI 0)), (0, .ref a0), (1, .int x1), (2, .int x2), (3, .int x3), (4, .int x4)]) hx hb dX4_read_60 hl (by decide) rfl (fun ls hl => ?_)
        obtain ⟨ox11, ho11, hk11⟩ := orL_s hf
        have hT11 : ∀ r, ox11 = .inl r → some r = some res := fun r eo => (by have e := orL_1 hk11 eo; exact e)
        have hJ11 : ∀ o11, ox11 = .inr o11 → ∀ (H : Heap) (locs : List Loc) (ls : Array Slot), ep_W G ep_cl o11.1 s H locs → lv_has ls 11 [(0, .ref a0), (5, .int o11.2.1), (6, .int o11.2.2)] → wX4_read p l e s m below meth c G h a0 x1 x2 x3 x4 res 0 0 H locs (F0 m 250 ls []) := by
          intro o11 eo H locs ls hw hl
          have hf := orL_2 hk11 eo
          refine lv_aload_n hx hb dX4_read_250 rfl (lv_at hl 0 rfl) ?_
          refine lv_iload hx hb dX4_read_251 (lv_at hl 1 rfl) ?_
          obtain ⟨h42, eh42, hf⟩ := ob_s hf
          refine ep_put (C := RX4) (T := TX4) (N := 32) (ci := 4) hx hb hts in_X4 tyX4 tyX4_ok nmX4 hown hK hw rfl (by decide) 30 (by decide) q1169 rfl rfl rfl eh42 dX4_read_253 (fun H locs hw => ?_)
          refine lv_iload hx hb dX4_read_256 (lv_at hl 2 rfl) ?_
          exact ep_retiW hx hb hr hlocks hw hf dX4_read_258
        have hL11 : ∀ (fu : Nat) (h : Hp) (x5 : Int32) (x6 : Int32) (x7 : Int32), fX4_read_L62 a0 x1 x2 x3 x4 fu h x5 x6 x7 = some ox11 → ∀ (H : Heap) (locs : List Loc) (ls : Array Slot), ep_W G ep_cl h s H locs → lv_has ls 11 [(0, .ref a0), (1, .int x1), (2, .int x2), (3, .int x3), (4, .int x4), (5, .int x5), (6, .int x6), (7, .int x7)] → wX4_read p l e s m below meth c G h a0 x1 x2 x3 x4 res 0 0 H locs (F0 m 62 ls []) := by
          intro fu
          induction fu with
          | zero => intro h x5 x6 x7 ho11; cases ho11
          | succ fu ih11 =>
            intro h x5 x6 x7 ho11 H locs ls hw hl
            rw [fX4_read_L62] at ho11
            refine lv_iload hx hb dX4_read_62 (lv_at hl 7 rfl) ?_
            refine lv_iload hx hb dX4_read_64 (lv_at hl 4 rfl) ?_
            refine lv_icmp_ge (tgt := 250) hx hb dX4_read_66 (by decide) (fun c12 => ?_) (fun c12 => ?_)
            · have ho11 := oi_t ho11 c12
              exact hJ11 _ (Option.some.inj ho11).symm _ _ _ hw (lv_sub hl [0, 5, 6] rfl)
            · have ho11 := oi_f ho11 c12
              refine lv_iload hx hb dX4_read_69 (lv_at hl 5 rfl) ?_
              refine lv_if_ne (tgt := 250) hx hb dX4_read_71 (by decide) (fun c13 => ?_) (fun c13 => ?_)
              · have ho11 := oi_f ho11 c13
                exact hJ11 _ (Option.some.inj ho11).symm _ _ _ hw (lv_sub hl [0, 5, 6] rfl)
              · have ho11 := oi_t ho11 c13
                refine lv_iconst (v := iI 0) hx hb dX4_read_74 rfl ?_
                refine lv_istore (lv' := [(8, .int (iI 0)), (0, .ref a0), (1, .int x1), (2, .int x2), (3, .int x3), (4, .int x4), (5, .int x5), (6, .int x6), (7, .int x7)]) hx hb dX4_read_75 hl (by decide) rfl (fun ls hl => ?_)
                obtain ⟨o14, ho14, ho11⟩ := ob_s ho11
                have hJ14 : ∀ (H : Heap) (locs : List Loc) (ls : Array Slot), ep_W G ep_cl h s H locs → lv_has ls 11 [(0, .ref a0), (1, .int x1), (2, .int x2), (3, .int x3), (4, .int x4), (5, .int o14), (6, .int x6), (7, .int x7)] → wX4_read p l e s m below meth c G h a0 x1 x2 x3 x4 res 0 0 H locs (F0 m 164 ls []) := by
                  intro H locs ls hw hl
                  refine lv_iload hx hb dX4_read_164 (lv_at hl 5 rfl) ?_
                  obtain ⟨ox28, ho28, hk28⟩ := orL_s ho11
                  have hT28 : ∀ r, ox28 = .inl r → some r = some res := fun r eo => hT11 _ (Option.some.inj (show some (.inl r) = some ox11 from (by have e := orL_1 hk28 eo; exact e))).symm
                  have hJ28 : ∀ o28, ox28 = .inr o28 → ∀ (H : Heap) (locs : List Loc) (ls : Array Slot), ep_W G ep_cl o28.1 s H locs → lv_has ls 11 [(0, .ref a0), (1, .int x1), (2, .int x2), (3, .int x3), (4, .int x4), (5, .int o14), (6, .int o28.2), (7, .int x7)] → wX4_read p l e s m below meth c G h a0 x1 x2 x3 x4 res 0 0 H locs (F0 m 244 ls []) := by
                    intro o28 eo H locs ls hw hl
                    have ho11 := orL_2 hk28 eo
                    refine lv_iinc (v := (x7 + iI 1)) (lv' := [(7, .int (x7 + iI 1)), (0, .ref a0), (1, .int x1), (2, .int x2), (3, .int x3), (4, .int x4), (5, .int o14), (6, .int o28.2)]) hx hb dX4_read_244 hl (k := 7) rfl rfl (by decide) rfl (fun ls hl => ?_)
                    refine lv_goto (tgt := 62) hx hb dX4_read_247 (by decide) ?_
                    exact ih11 _ _ _ _ ho11 _ _ _ hw (lv_sub hl [1, 2, 3, 4, 5, 6, 7, 0] rfl)
                  refine lv_if_ne (tgt := 244) hx hb dX4_read_166 (by decide) (fun c29 => ?_) (fun c29 => ?_)
                  · have ho28 := oi_f ho28 c29
                    exact hJ28 _ (Option.some.inj ho28).symm _ _ _ hw (lv_sub hl [0, 1, 2, 3, 4, 5, 6, 7] rfl)
                  · have ho28 := oi_t ho28 c29
                    refine lv_bipush (v := iI 40) hx hb dX4_read_169 (by decide) ?_
                    refine lv_iload_n hx hb dX4_read_171 rfl (lv_at hl 1 rfl) ?_
                    refine lv_imul hx hb dX4_read_172 ?_
                    refine lv_iload_n hx hb dX4_read_173 rfl (lv_at hl 3 rfl) ?_
                    refine lv_iadd hx hb dX4_read_174 ?_
                    refine lv_iconst (v := iI 2) hx hb dX4_read_175 rfl ?_
                    refine lv_iload hx hb dX4_read_176 (lv_at hl 7 rfl) ?_
                    refine lv_imul hx hb dX4_read_178 ?_
                    refine lv_iadd hx hb dX4_read_179 ?_
                    refine lv_istore (lv' := [(8, .int ((((iI 40) * x1) + x3) + ((iI 2) * x7))), (0, .ref a0), (1, .int x1), (2, .int x2), (3, .int x3), (4, .int x4), (5, .int o14), (6, .int x6), (7, .int x7)]) hx hb dX4_read_180 hl (by decide) rfl (fun ls hl => ?_)
                    refine lv_aload_n hx hb dX4_read_182 rfl (lv_at hl 1 rfl) ?_
                    refine lv_aload_n hx hb dX4_read_183 rfl (lv_at hl 1 rfl) ?_
                    obtain ⟨r30, er30, ho28⟩ := ob_s ho28
                    refine ep_get (C := RX4) (T := TX4) (N := 32) (ci := 4) hx hb hts in_X4 hown hK hw rfl 29 (by decide) q1168 (gR_f er30) dX4_read_184 ?_
                    refine lv_iload hx hb dX4_read_187 (lv_at hl 0 rfl) ?_
                    obtain ⟨v31, ev31, ho28⟩ := ob_s ho28
                    refine ep_iald hx hb hK hw ev31 dX4_read_189 ?_
                    refine lv_aload_n hx hb dX4_read_190 rfl (lv_at hl 1 rfl) ?_
                    obtain ⟨r32, er32, ho28⟩ := ob_s ho28
                    refine ep_get (C := RX4) (T := TX4) (N := 32) (ci := 4) hx hb hts in_X4 hown hK hw rfl 29 (by decide) q1168 (gR_f er32) dX4_read_191 ?_
                    refine lv_iload hx hb dX4_read_194 (lv_at hl 0 rfl) ?_
                    refine lv_iconst (v := iI 1) hx hb dX4_read_196 rfl ?_
                    refine lv_iadd hx hb dX4_read_197 ?_
                    obtain ⟨v33, ev33, ho28⟩ := ob_s ho28
                    refine ep_iald hx hb hK hw ev33 dX4_read_198 ?_
                    obtain ⟨o34, eo34, ho28⟩ := ob_s ho28
                    refine ep_calli0 (va_runV (As := [.int v31, .int v33]) (rest := []) ⟨hx, hb, hml, hown, hts⟩ (metX4_drive l G h a0 v31 v33 eo34) (cwV 2 hts (lw_V q1627 q1385 q1386 q89 q1387) rfl rfl rfl hdX4_drive ⟨Nat.le_of_ble_eq_true rfl, Nat.le_of_ble_eq_true rfl⟩) (ep_preV hK hZ hw rfl (ckX4_drive eo34)) rfl rfl hl.1 rfl (lv_room (Nat.le_of_ble_eq_true rfl)) dX4_read_199 ⟨Nat.le_of_ble_eq_true rfl, Nat.le_of_ble_eq_true rfl⟩) hw (fun H locs hw => ?_)
                    refine lv_if_ge (tgt := 241) hx hb dX4_read_202 (by decide) (fun c35 => ?_) (fun c35 => ?_)
                    · have ho28 := oi_t ho28 c35
                      refine lv_iinc (v := (x6 + iI 1)) (lv' := [(6, .int (x6 + iI 1)), (8, .int ((((iI 40) * x1) + x3) + ((iI 2) * x7))), (0, .ref a0), (1, .int x1), (2, .int x2), (3, .int x3), (4, .int x4), (5, .int o14), (7, .int x7)]) hx hb dX4_read_241 hl (k := 7) rfl rfl (by decide) rfl (fun ls hl => ?_)
                      exact hJ28 _ (Option.some.inj ho28).symm _ _ _ hw (lv_sub hl [2, 3, 4, 5, 6, 7, 0, 8] rfl)
                    · have ho28 := oi_f ho28 c35
                      refine lv_iconst (v := iI 0) hx hb dX4_read_205 rfl ?_
                      refine lv_istore (lv' := [(9, .int (iI 0)), (8, .int ((((iI 40) * x1) + x3) + ((iI 2) * x7))), (0, .ref a0), (1, .int x1), (2, .int x2), (3, .int x3), (4, .int x4), (5, .int o14), (6, .int x6), (7, .int x7)]) hx hb dX4_read_206 hl (by decide) rfl (fun ls hl => ?_)
                      obtain ⟨o36, ho36, ho28⟩ := ob_s ho28
                      have hJ36 : ∀ (H : Heap) (locs : List Loc) (ls : Array Slot), ep_W G ep_cl o36 s H locs → lv_has ls 11 [(7, .int x7)] → wX4_read p l e s m below meth c G h a0 x1 x2 x3 x4 res 0 0 H locs (F0 m 235 ls []) := by
                        intro H locs ls hw hl
                        refine lv_bipush (v := iI (-20)) hx hb dX4_read_235 (by decide) ?_
                        refine lv_iload hx hb dX4_read_237 (lv_at hl 0 rfl) ?_
                        refine lv_isub hx hb dX4_read_239 ?_
                        exact ep_retiW hx hb hr hlocks hw (hT28 _ (Option.some.inj ho28).symm) dX4_read_240
                      have hL36 : ∀ (fu : Nat) (h : Hp) (x9 : Int32), fX4_read_L208 a0 x7 fu h x9 = some o36 → ∀ (H : Heap) (locs : List Loc) (ls : Array Slot), ep_W G ep_cl h s H locs → lv_has ls 11 [(0, .ref a0), (7, .int x7), (9, .int x9)] → wX4_read p l e s m below meth c G h a0 x1 x2 x3 x4 res 0 0 H locs (F0 m 208 ls []) := by
                        intro fu
                        induction fu with
                        | zero => intro h x9 ho36; cases ho36
                        | succ fu ih36 =>
                          intro h x9 ho36 H locs ls hw hl
                          rw [fX4_read_L208] at ho36
                          refine lv_iload hx hb dX4_read_208 (lv_at hl 2 rfl) ?_
                          refine lv_bipush (v := iI 75) hx hb dX4_read_210 (by decide) ?_
                          refine lv_icmp_ge (tgt := 235) hx hb dX4_read_212 (by decide) (fun c37 => ?_) (fun c37 => ?_)
                          · have ho36 := oi_t ho36 c37
                            obtain rfl := Option.some.inj ho36
                            exact hJ36 _ _ _ hw (lv_sub hl [1] rfl)
                          · have ho36 := oi_f ho36 c37
                            refine lv_aload_n hx hb dX4_read_215 rfl (lv_at hl 0 rfl) ?_
                            obtain ⟨r38, er38, ho36⟩ := ob_s ho36
                            refine ep_get (C := RX4) (T := TX4) (N := 32) (ci := 4) hx hb hts in_X4 hown hK hw rfl 0 (by decide) q1139 (gR_f er38) dX4_read_216 ?_
                            refine lv_iload hx hb dX4_read_219 (lv_at hl 2 rfl) ?_
                            refine lv_aload_n hx hb dX4_read_221 rfl (lv_at hl 0 rfl) ?_
                            obtain ⟨r39, er39, ho36⟩ := ob_s ho36
                            refine ep_get (C := RX4) (T := TX4) (N := 32) (ci := 4) hx hb hts in_X4 hown hK hw rfl 31 (by decide) q1170 (gR_f er39) dX4_read_222 ?_
                            refine lv_iload hx hb dX4_read_225 (lv_at hl 2 rfl) ?_
                            obtain ⟨v40, ev40, ho36⟩ := ob_s ho36
                            refine ep_iald hx hb hK hw ev40 dX4_read_227 ?_
                            obtain ⟨h41, eh41, ho36⟩ := ob_s ho36
                            refine ep_iast hx hb hK hw eh41 dX4_read_228 (fun H locs hw => ?_)
                            refine lv_iinc (v := (x9 + iI 1)) (lv' := [(9, .int (x9 + iI 1)), (0, .ref a0), (7, .int x7)]) hx hb dX4_read_229 hl (k := 2) rfl rfl (by decide) rfl (fun ls hl => ?_)
                            refine lv_goto (tgt := 208) hx hb dX4_read_232 (by decide) ?_
                            exact ih36 _ _ ho36 _ _ _ hw (lv_sub hl [1, 2, 0] rfl)
                      exact hL36 FUEL _ _ ho36 _ _ _ hw (lv_sub hl [2, 9, 0] rfl)
                have hL14 : ∀ (fu : Nat) (x5 : Int32) (x8 : Int32), fX4_read_L77 h a0 x1 x2 x3 x4 x6 x7 fu x5 x8 = some o14 → ∀ (H : Heap) (locs : List Loc) (ls : Array Slot), ep_W G ep_cl h s H locs → lv_has ls 11 [(0, .ref a0), (1, .int x1), (2, .int x2), (3, .int x3), (4, .int x4), (5, .int x5), (6, .int x6), (7, .int x7), (8, .int x8)] → wX4_read p l e s m below meth c G h a0 x1 x2 x3 x4 res 0 0 H locs (F0 m 77 ls []) := by
                  intro fu
                  induction fu with
                  | zero => intro x5 x8 ho14; cases ho14
                  | succ fu ih14 =>
                    intro x5 x8 ho14 H locs ls hw hl
                    rw [fX4_read_L77] at ho14
                    refine lv_iload hx hb dX4_read_77 (lv_at hl 8 rfl) ?_
                    refine lv_iconst (v := iI 2) hx hb dX4_read_79 rfl ?_
                    refine lv_icmp_ge (tgt := 164) hx hb dX4_read_80 (by decide) (fun c15 => ?_) (fun c15 => ?_)
                    · have ho14 := oi_t ho14 c15
                      obtain rfl := Option.some.inj ho14
                      exact hJ14 _ _ _ hw (lv_sub hl [0, 1, 2, 3, 4, 5, 6, 7] rfl)
                    · have ho14 := oi_f ho14 c15
                      refine lv_iload hx hb dX4_read_83 (lv_at hl 5 rfl) ?_
                      refine lv_if_ne (tgt := 164) hx hb dX4_read_85 (by decide) (fun c16 => ?_) (fun c16 => ?_)
                      · have ho14 := oi_f ho14 c16
                        obtain rfl := Option.some.inj ho14
                        exact hJ14 _ _ _ hw (lv_sub hl [0, 1, 2, 3, 4, 5, 6, 7] rfl)
                      · have ho14 := oi_t ho14 c16
                        refine lv_iload_n hx hb dX4_read_88 rfl (lv_at hl 3 rfl) ?_
                        refine lv_i2l (v := x3.toInt64) hx hb dX4_read_89 rfl ?_
                        refine lv_iconst (v := iI 2) hx hb dX4_read_90 rfl ?_
                        refine lv_iload hx hb dX4_read_91 (lv_at hl 7 rfl) ?_
                        refine lv_imul hx hb dX4_read_93 ?_
                        refine lv_i2l (v := ((iI 2) * x7).toInt64) hx hb dX4_read_94 rfl ?_
                        refine lv_ladd hx hb dX4_read_95 ?_
                        refine lv_iload hx hb dX4_read_96 (lv_at hl 8 rfl) ?_
                        refine lv_i2l (v := x8.toInt64) hx hb dX4_read_98 rfl ?_
                        refine lv_ladd hx hb dX4_read_99 ?_
                        refine lv_lstore (lv' := [(9, .long ((x3.toInt64 + (((iI 2) * x7).toInt64)) + x8.toInt64)), (0, .ref a0), (1, .int x1), (2, .int x2), (3, .int x3), (4, .int x4), (5, .int x5), (6, .int x6), (7, .int x7), (8, .int x8)]) hx hb dX4_read_100 hl (by decide) rfl (fun ls hl => ?_)
                        refine lv_aload_n hx hb dX4_read_102 rfl (lv_at hl 1 rfl) ?_
                        obtain ⟨r17, er17, ho14⟩ := ob_s ho14
                        refine ep_get (C := RX4) (T := TX4) (N := 32) (ci := 4) hx hb hts in_X4 hown hK hw rfl 27 (by decide) q1166 (gR_f er17) dX4_read_103 ?_
                        refine lv_iload_n hx hb dX4_read_106 rfl (lv_at hl 2 rfl) ?_
                        obtain ⟨v18, ev18, ho14⟩ := ob_s ho14
                        refine ep_iald hx hb hK hw ev18 dX4_read_107 ?_
                        refine lv_bipush (v := iI (-4)) hx hb dX4_read_108 (by decide) ?_
                        obtain ⟨o19, ho19, ho14⟩ := ob_s ho14
                        have hJ19 : ∀ (H : Heap) (locs : List Loc) (ls : Array Slot), ep_W G ep_cl h s H locs → lv_has ls 11 [(0, .ref a0), (1, .int x1), (2, .int x2), (3, .int x3), (4, .int x4), (6, .int x6), (7, .int x7), (8, .int x8)] → wX4_read p l e s m below meth c G h a0 x1 x2 x3 x4 res 0 0 H locs (F0 m 156 ls [.int o19]) := by
                          intro H locs ls hw hl
                          refine lv_istore (lv' := [(5, .int o19), (0, .ref a0), (1, .int x1), (2, .int x2), (3, .int x3), (4, .int x4), (6, .int x6), (7, .int x7), (8, .int x8)]) hx hb dX4_read_156 hl (by decide) rfl (fun ls hl => ?_)
                          refine lv_iinc (v := (x8 + iI 1)) (lv' := [(8, .int (x8 + iI 1)), (5, .int o19), (0, .ref a0), (1, .int x1), (2, .int x2), (3, .int x3), (4, .int x4), (6, .int x6), (7, .int x7)]) hx hb dX4_read_158 hl (k := 8) rfl rfl (by decide) rfl (fun ls hl => ?_)
                          refine lv_goto (tgt := 77) hx hb dX4_read_161 (by decide) ?_
                          exact ih14 _ _ ho14 _ _ _ hw (lv_sub hl [2, 3, 4, 5, 6, 1, 7, 8, 0] rfl)
                        refine lv_icmp_ne (tgt := 117) hx hb dX4_read_110 (by decide) (fun c20 => ?_) (fun c20 => ?_)
                        · have ho19 := oi_f ho19 c20
                          refine lv_aload_n hx hb dX4_read_117 rfl (lv_at hl 1 rfl) ?_
                          obtain ⟨r21, er21, ho19⟩ := ob_s ho19
                          refine ep_get (C := RX4) (T := TX4) (N := 32) (ci := 4) hx hb hts in_X4 hown hK hw rfl 27 (by decide) q1166 (gR_f er21) dX4_read_118 ?_
                          refine lv_iload_n hx hb dX4_read_121 rfl (lv_at hl 2 rfl) ?_
                          obtain ⟨v22, ev22, ho19⟩ := ob_s ho19
                          refine ep_iald hx hb hK hw ev22 dX4_read_122 ?_
                          refine lv_iload_n hx hb dX4_read_123 rfl (lv_at hl 3 rfl) ?_
                          refine lv_icmp_eq (tgt := 131) hx hb dX4_read_124 (by decide) (fun c23 => ?_) (fun c23 => ?_)
                          · have ho19 := oi_t ho19 c23
                            refine lv_lload hx hb dX4_read_131 (lv_at hl 0 rfl) ?_
                            refine lv_lconst (v := lI 0) hx hb dX4_read_133 (by decide) ?_
                            refine W.lcmp hx hb dX4_read_134 ?_
                            refine lv_if_lt (tgt := 151) hx hb dX4_read_135 (by decide) (fun c24 => ?_) (fun c24 => ?_)
                            · have ho19 := oi_t ho19 c24
                              refine lv_iconst (v := iI 2) hx hb dX4_read_151 rfl ?_
                              refine lv_goto (tgt := 156) hx hb dX4_read_152 (by decide) ?_
                              obtain rfl := Option.some.inj ho19
                              exact hJ19 _ _ _ hw (lv_sub hl [1, 2, 3, 4, 5, 7, 8, 9] rfl)
                            · have ho19 := oi_f ho19 c24
                              refine lv_lload hx hb dX4_read_138 (lv_at hl 0 rfl) ?_
                              refine lv_aload_n hx hb dX4_read_140 rfl (lv_at hl 1 rfl) ?_
                              obtain ⟨r25, er25, ho19⟩ := ob_s ho19
                              refine ep_get (C := RX4) (T := TX4) (N := 32) (ci := 4) hx hb hts in_X4 hown hK hw rfl 28 (by decide) q1167 (gR_f er25) dX4_read_141 ?_
                              refine lv_iload_n hx hb dX4_read_144 rfl (lv_at hl 2 rfl) ?_
                              obtain ⟨v26, ev26, ho19⟩ := ob_s ho19
                              refine ep_iald hx hb hK hw ev26 dX4_read_145 ?_
                              refine lv_i2l (v := v26.toInt64) hx hb dX4_read_146 rfl ?_
                              refine W.lcmp hx hb dX4_read_147 ?_
                              refine lv_if_lt (tgt := 155) hx hb dX4_read_148 (by decide) (fun c27 => ?_) (fun c27 => ?_)
                              · have ho19 := oi_t ho19 c27
                                refine lv_iconst (v := iI 0) hx hb dX4_read_155 rfl ?_
                                obtain rfl := Option.some.inj ho19
                                exact hJ19 _ _ _ hw (lv_sub hl [1, 2, 3, 4, 5, 7, 8, 9] rfl)
                              · have ho19 := oi_f ho19 c27
                                refine lv_iconst (v := iI 2) hx hb dX4_read_151 rfl ?_
                                refine lv_goto (tgt := 156) hx hb dX4_read_152 (by decide) ?_
                                obtain rfl := Option.some.inj ho19
                                exact hJ19 _ _ _ hw (lv_sub hl [1, 2, 3, 4, 5, 7, 8, 9] rfl)
                          · have ho19 := oi_f ho19 c23
                            refine lv_iconst (v := iI 3) hx hb dX4_read_127 rfl ?_
                            refine lv_goto (tgt := 156) hx hb dX4_read_128 (by decide) ?_
                            obtain rfl := Option.some.inj ho19
                            exact hJ19 _ _ _ hw (lv_sub hl [1, 2, 3, 4, 5, 7, 8, 9] rfl)
                        · have ho19 := oi_t ho19 c20
                          refine lv_iconst (v := iI 1) hx hb dX4_read_113 rfl ?_
                          refine lv_goto (tgt := 156) hx hb dX4_read_114 (by decide) ?_
                          obtain rfl := Option.some.inj ho19
                          exact hJ19 _ _ _ hw (lv_sub hl [1, 2, 3, 4, 5, 7, 8, 9] rfl)
                exact hL14 FUEL _ _ ho14 _ _ _ hw (lv_sub hl [1, 2, 3, 4, 5, 6, 7, 8, 0] rfl)
        exact hL11 FUEL _ _ _ _ ho11 _ _ _ hw (lv_sub hl [3, 4, 5, 6, 7, 2, 1, 0] rfl)
      have hL5 : ∀ (fu : Nat) (h : Hp) (x5 : Int32), fX4_read_L26 a0 x1 x2 x3 x4 fu h x5 = some o5 → ∀ (H : Heap) (locs : List Loc) (ls : Array Slot), ep_W G ep_cl h s H locs → lv_has ls 11 [(0, .ref a0), (1, .int x1), (2, .int x2), (3, .int x3), (4, .int x4), (5, .int x5)] → wX4_read p l e s m below meth c G h a0 x1 x2 x3 x4 res 0 0 H locs (F0 m 26 ls []) := by
        intro fu
        induction fu with
        | zero => intro h x5 ho5; cases ho5
        | succ fu ih5 =>
          intro h x5 ho5 H locs ls hw hl
          rw [fX4_read_L26] at ho5
          refine lv_iload hx hb dX4_read_26 (lv_at hl 5 rfl) ?_
          refine lv_bipush (v := iI 75) hx hb dX4_read_28 (by decide) ?_
          refine lv_icmp_ge (tgt := 53) hx hb dX4_read_30 (by decide) (fun c6 => ?_) (fun c6 => ?_)
          · have ho5 := oi_t ho5 c6
            obtain rfl := Option.some.inj ho5
            exact hJ5 _ _ _ hw (lv_sub hl [0, 1, 2, 3, 4] rfl)
          · have ho5 := oi_f ho5 c6
            refine lv_aload_n hx hb dX4_read_33 rfl (lv_at hl 0 rfl) ?_
            obtain ⟨r7, er7, ho5⟩ := ob_s ho5
            refine ep_get (C := RX4) (T := TX4) (N := 32) (ci := 4) hx hb hts in_X4 hown hK hw rfl 31 (by decide) q1170 (gR_f er7) dX4_read_34 ?_
            refine lv_iload hx hb dX4_read_37 (lv_at hl 5 rfl) ?_
            refine lv_aload_n hx hb dX4_read_39 rfl (lv_at hl 0 rfl) ?_
            obtain ⟨r8, er8, ho5⟩ := ob_s ho5
            refine ep_get (C := RX4) (T := TX4) (N := 32) (ci := 4) hx hb hts in_X4 hown hK hw rfl 0 (by decide) q1139 (gR_f er8) dX4_read_40 ?_
            refine lv_iload hx hb dX4_read_43 (lv_at hl 5 rfl) ?_
            obtain ⟨v9, ev9, ho5⟩ := ob_s ho5
            refine ep_iald hx hb hK hw ev9 dX4_read_45 ?_
            obtain ⟨h10, eh10, ho5⟩ := ob_s ho5
            refine ep_iast hx hb hK hw eh10 dX4_read_46 (fun H locs hw => ?_)
            refine lv_iinc (v := (x5 + iI 1)) (lv' := [(5, .int (x5 + iI 1)), (0, .ref a0), (1, .int x1), (2, .int x2), (3, .int x3), (4, .int x4)]) hx hb dX4_read_47 hl (k := 5) rfl rfl (by decide) rfl (fun ls hl => ?_)
            refine lv_goto (tgt := 26) hx hb dX4_read_50 (by decide) ?_
            exact ih5 _ _ ho5 _ _ _ hw (lv_sub hl [1, 2, 3, 4, 5, 0] rfl)
      exact hL5 FUEL _ _ ho5 _ _ _ hw (lv_sub hl [1, 2, 3, 4, 5, 0] rfl)
    · have hf := oi_t hf c4
      refine lv_iconst (v := iI (-1)) hx hb dX4_read_21 rfl ?_
      exact ep_retiW hx hb hr hlocks hw hf dX4_read_22
theorem hdX4_torn : yX4_torn.cls = RX4 ∧ yX4_torn.cls ≠ "java/lang/invoke/MethodHandle" ∧ yX4_torn.cls ≠ "java/lang/invoke/VarHandle" ∧ (parseMethodDescriptor yX4_torn.desc).map (fun d => d.parameters.length) = some 0 := by decide +kernel
theorem ckX4_torn {h : Hp} {a0 : Nat} {res : Int32} (hf : fX4_torn h a0 = some res) : ep_cls h a0 = some 4 := by
  unfold fX4_torn at hf
  exact (oi_c hf).1
abbrev wX4_torn (p : Program) (l : Launch) (e : Env) (s : State) (m : MethodId) (below : List Frame) (meth : Method) (c : Code) (G : EG) (h : Hp) (a0 : Nat) (res : Int32) (k9 n9 : Nat) (H : Heap) (locs : List Loc) (g : JFrame) : Prop := W p l e (headSpec (ws_ yX4_torn cX4_torn 1 (some .int)) ({ frames := 0, cells := 0, slots := 0, locals := 0 } : Room)).room s m ([.ref a0] : List Value).toArray below meth c H locs k9 n9 (MQ below (ep_Qi G ep_cl h res) ([.ref a0] : List Value).toArray s 0 0 (ep_A G)) g
set_option maxHeartbeats 4000000 in
theorem metX4_torn (l : Launch) (G : EG) (h : Hp) (a0 : Nat) {res : Int32} (hf : fX4_torn h a0 = some res) : Met l yX4_torn (ws_ yX4_torn cX4_torn 1 (some .int)) ({ frames := 0, cells := 0, slots := 0, locals := 0 } : Room) (ep_Pc G ep_cl h [.ref a0]) (ep_Qi G ep_cl h res) 0 0 (ep_A G) := by
  refine Met.ofW (cc := cX4_torn) (maxL := 1) (ret := (some .int)) (by decide) rfl ?_
  intro p e s m args below meth c s₁ B hml hv
  obtain ⟨rfl, hR, hK, hZ⟩ := hv
  have hx := B.exec
  have hb := B.bytes
  have hr := B.returns
  have hlocks := B.notSynchronized
  have hts := atoms_spec (ws := (ws_ yX4_torn cX4_torn 1 (some .int))) B.pre
  have hts : ∀ w ∈ lw_all, w.before _ s = true := fun w h => hts w (List.mem_cons_of_mem _ h)
  have hown : s.vm.findClass RX4 = some m.cls := findClass_of_methodNamed B.named
  have hw : ep_W G ep_cl h s s.heap [] := ⟨hR, va_S.rf⟩
  have hl := lv_entry ([.ref a0]) (n := 1) (Nat.le_of_ble_eq_true rfl)
  rw [lg_entry_eq]
  generalize (lg_sl ([.ref a0]) ++ List.replicate (1 - (lg_sl ([.ref a0])).length) Slot.unset).toArray = ls at hl ⊢
  have hl : lv_has ls 1 [(0, .ref a0)] := hl
  unfold fX4_torn at hf
  have hf := (oi_c hf).2
  show wX4_torn p l e s m below meth c G h a0 res 0 0 s.heap ([]) (F0 m 0 ls [])
  refine lv_aload_n hx hb dX4_torn_0 rfl (lv_at hl 0 rfl) ?_
  obtain ⟨v1, ev1, hf⟩ := ob_s hf
  refine ep_get (C := RX4) (T := TX4) (N := 32) (ci := 4) hx hb hts in_X4 hown hK hw rfl 30 (by decide) q1169 (gI_f ev1) dX4_torn_1 ?_
  exact ep_retiR hx hb hr hlocks hw hf dX4_torn_4
theorem hdX4_count : yX4_count.cls = RX4 ∧ yX4_count.cls ≠ "java/lang/invoke/MethodHandle" ∧ yX4_count.cls ≠ "java/lang/invoke/VarHandle" ∧ (parseMethodDescriptor yX4_count.desc).map (fun d => d.parameters.length) = some 1 := by decide +kernel
theorem ckX4_count {h : Hp} {a0 : Nat} {x1 : Int32} {res : Int32 × Hp} (hf : fX4_count h a0 x1 = some res) : ep_cls h a0 = some 4 := by
  unfold fX4_count at hf
  exact (oi_c hf).1
abbrev wX4_count (p : Program) (l : Launch) (e : Env) (s : State) (m : MethodId) (below : List Frame) (meth : Method) (c : Code) (G : EG) (h : Hp) (a0 : Nat) (x1 : Int32) (res : Int32 × Hp) (k9 n9 : Nat) (H : Heap) (locs : List Loc) (g : JFrame) : Prop := W p l e (headSpec (ws_ yX4_count cX4_count 2 (some .int)) ({ frames := 3, cells := 0, slots := 0, locals := 66 } : Room)).room s m ([.ref a0, .int x1] : List Value).toArray below meth c H locs k9 n9 (MQ below (ep_Qi G ep_cl res.2 res.1) ([.ref a0, .int x1] : List Value).toArray s 0 0 (ep_A G)) g
set_option maxHeartbeats 4000000 in
theorem metX4_count (l : Launch) (G : EG) (h : Hp) (a0 : Nat) (x1 : Int32) {res : Int32 × Hp} (hf : fX4_count h a0 x1 = some res) : Met l yX4_count (ws_ yX4_count cX4_count 2 (some .int)) ({ frames := 3, cells := 0, slots := 0, locals := 66 } : Room) (ep_Pc G ep_cl h [.ref a0, .int x1]) (ep_Qi G ep_cl res.2 res.1) 0 0 (ep_A G) := by
  refine Met.ofW (cc := cX4_count) (maxL := 2) (ret := (some .int)) (by decide) rfl ?_
  intro p e s m args below meth c s₁ B hml hv
  obtain ⟨rfl, hR, hK, hZ⟩ := hv
  have hx := B.exec
  have hb := B.bytes
  have hr := B.returns
  have hlocks := B.notSynchronized
  have hts := atoms_spec (ws := (ws_ yX4_count cX4_count 2 (some .int))) B.pre
  have hts : ∀ w ∈ lw_all, w.before _ s = true := fun w h => hts w (List.mem_cons_of_mem _ h)
  have hown : s.vm.findClass RX4 = some m.cls := findClass_of_methodNamed B.named
  have hw : ep_W G ep_cl h s s.heap [] := ⟨hR, va_S.rf⟩
  have hl := lv_entry ([.ref a0, .int x1]) (n := 2) (Nat.le_of_ble_eq_true rfl)
  rw [lg_entry_eq]
  generalize (lg_sl ([.ref a0, .int x1]) ++ List.replicate (2 - (lg_sl ([.ref a0, .int x1])).length) Slot.unset).toArray = ls at hl ⊢
  have hl : lv_has ls 2 [(0, .ref a0), (1, .int x1)] := hl
  unfold fX4_count at hf
  have hf := (oi_c hf).2
  show wX4_count p l e s m below meth c G h a0 x1 res 0 0 s.heap ([]) (F0 m 0 ls [])
  refine lv_aload_n hx hb dX4_count_0 rfl (lv_at hl 0 rfl) ?_
  obtain ⟨o1, eo1, hf⟩ := ob_s hf
  refine ep_callv0 (va_runV (As := []) (rest := []) ⟨hx, hb, hml, hown, hts⟩ (metX4_starts l G h a0 eo1) (cwV 0 hts (lw_V q1319 q1321 qs48 q89 q1322) rfl rfl rfl hdX4_starts ⟨Nat.le_of_ble_eq_true rfl, Nat.le_of_ble_eq_true rfl⟩) (ep_preV hK hZ hw rfl (ckX4_starts eo1)) rfl rfl hl.1 rfl (lv_room (Nat.le_of_ble_eq_true rfl)) dX4_count_1 ⟨Nat.le_of_ble_eq_true rfl, Nat.le_of_ble_eq_true rfl⟩) hw (fun H locs hw => ?_)
  refine lv_iload_n hx hb dX4_count_4 rfl (lv_at hl 1 rfl) ?_
  by_cases c2 : x1 = iI 0
  · have hf := oi_t hf c2
    refine lv_tableIn (off := 39) (tgt := 44) hx hb dX4_count_5 (by rw [ep_swIn c2 (by decide)]; decide) (by rw [ep_swIn c2 (by decide)]; decide) (by rw [ep_swIn c2 (by decide)]; rfl) (by decide) ?_
    refine lv_aload_n hx hb dX4_count_44 rfl (lv_at hl 0 rfl) ?_
    refine lv_iconst (v := iI 3) hx hb dX4_count_45 rfl ?_
    obtain ⟨v8, ev8, hf⟩ := ob_s hf
    refine ep_calli0 (va_runV (As := [.int (iI 3)]) (rest := []) ⟨hx, hb, hml, hown, hts⟩ (metX4_allOf l G o1 a0 (iI 3) ev8) (cwV 1 hts (lw_V q1595 q1597 qs82 q89 q1598) rfl rfl rfl hdX4_allOf ⟨Nat.le_of_ble_eq_true rfl, Nat.le_of_ble_eq_true rfl⟩) (ep_preV hK hZ hw rfl (ckX4_allOf ev8)) rfl rfl hl.1 rfl (lv_room (Nat.le_of_ble_eq_true rfl)) dX4_count_46 ⟨Nat.le_of_ble_eq_true rfl, Nat.le_of_ble_eq_true rfl⟩) hw (fun H locs hw => ?_)
    exact ep_retiW hx hb hr hlocks hw hf dX4_count_49
  · have hf := oi_f hf c2
    by_cases c3 : x1 = iI 1
    · have hf := oi_t hf c3
      refine lv_tableIn (off := 45) (tgt := 50) hx hb dX4_count_5 (by rw [ep_swIn c3 (by decide)]; decide) (by rw [ep_swIn c3 (by decide)]; decide) (by rw [ep_swIn c3 (by decide)]; rfl) (by decide) ?_
      refine lv_aload_n hx hb dX4_count_50 rfl (lv_at hl 0 rfl) ?_
      refine lv_iconst (v := iI 1) hx hb dX4_count_51 rfl ?_
      obtain ⟨v9, ev9, hf⟩ := ob_s hf
      refine ep_calli0 (va_runV (As := [.int (iI 1)]) (rest := []) ⟨hx, hb, hml, hown, hts⟩ (metX4_allOf l G o1 a0 (iI 1) ev9) (cwV 1 hts (lw_V q1595 q1597 qs82 q89 q1598) rfl rfl rfl hdX4_allOf ⟨Nat.le_of_ble_eq_true rfl, Nat.le_of_ble_eq_true rfl⟩) (ep_preV hK hZ hw rfl (ckX4_allOf ev9)) rfl rfl hl.1 rfl (lv_room (Nat.le_of_ble_eq_true rfl)) dX4_count_52 ⟨Nat.le_of_ble_eq_true rfl, Nat.le_of_ble_eq_true rfl⟩) hw (fun H locs hw => ?_)
      exact ep_retiW hx hb hr hlocks hw hf dX4_count_55
    · have hf := oi_f hf c3
      by_cases c4 : x1 = iI 2
      · have hf := oi_t hf c4
        refine lv_tableIn (off := 51) (tgt := 56) hx hb dX4_count_5 (by rw [ep_swIn c4 (by decide)]; decide) (by rw [ep_swIn c4 (by decide)]; decide) (by rw [ep_swIn c4 (by decide)]; rfl) (by decide) ?_
        refine lv_aload_n hx hb dX4_count_56 rfl (lv_at hl 0 rfl) ?_
        obtain ⟨r10, er10, hf⟩ := ob_s hf
        refine ep_get (C := RX4) (T := TX4) (N := 32) (ci := 4) hx hb hts in_X4 hown hK hw rfl 0 (by decide) q1139 (gR_f er10) dX4_count_57 ?_
        refine lv_bipush (v := iI 56) hx hb dX4_count_60 (by decide) ?_
        obtain ⟨v11, ev11, hf⟩ := ob_s hf
        refine ep_iald hx hb hK hw ev11 dX4_count_62 ?_
        exact ep_retiW hx hb hr hlocks hw hf dX4_count_63
      · have hf := oi_f hf c4
        by_cases c5 : x1 = iI 3
        · have hf := oi_t hf c5
          refine lv_tableIn (off := 59) (tgt := 64) hx hb dX4_count_5 (by rw [ep_swIn c5 (by decide)]; decide) (by rw [ep_swIn c5 (by decide)]; decide) (by rw [ep_swIn c5 (by decide)]; rfl) (by decide) ?_
          refine lv_aload_n hx hb dX4_count_64 rfl (lv_at hl 0 rfl) ?_
          obtain ⟨r12, er12, hf⟩ := ob_s hf
          refine ep_get (C := RX4) (T := TX4) (N := 32) (ci := 4) hx hb hts in_X4 hown hK hw rfl 2 (by decide) q1141 (gR_f er12) dX4_count_65 ?_
          refine lv_iconst (v := iI 0) hx hb dX4_count_68 rfl ?_
          obtain ⟨v13, ev13, hf⟩ := ob_s hf
          refine ep_zald hx hb hK hw ev13 dX4_count_69 ?_
          obtain ⟨v14, ev14, hf⟩ := ob_s hf
          refine ep_calli0 (va_runS (As := [.int v13]) (rest := []) ⟨hx, hb, hml, hown, hts⟩ (metX4_flag l G o1 v13 ev14) (va_cwS 1 hts (lw_S q1308 q1309 q89 q1310) rfl rfl rfl hsX4_flag ⟨Nat.le_of_ble_eq_true rfl, Nat.le_of_ble_eq_true rfl⟩) (ep_preS hK hZ hw) rfl rfl hl.1 rfl (lv_room (Nat.le_of_ble_eq_true rfl)) dX4_count_70 ⟨Nat.le_of_ble_eq_true rfl, Nat.le_of_ble_eq_true rfl⟩) hw (fun H locs hw => ?_)
          refine lv_aload_n hx hb dX4_count_73 rfl (lv_at hl 0 rfl) ?_
          obtain ⟨r15, er15, hf⟩ := ob_s hf
          refine ep_get (C := RX4) (T := TX4) (N := 32) (ci := 4) hx hb hts in_X4 hown hK hw rfl 2 (by decide) q1141 (gR_f er15) dX4_count_74 ?_
          refine lv_iconst (v := iI 1) hx hb dX4_count_77 rfl ?_
          obtain ⟨v16, ev16, hf⟩ := ob_s hf
          refine ep_zald hx hb hK hw ev16 dX4_count_78 ?_
          obtain ⟨v17, ev17, hf⟩ := ob_s hf
          refine ep_calli0 (va_runS (As := [.int v16]) (rest := [.int v14]) ⟨hx, hb, hml, hown, hts⟩ (metX4_flag l G o1 v16 ev17) (va_cwS 1 hts (lw_S q1308 q1309 q89 q1310) rfl rfl rfl hsX4_flag ⟨Nat.le_of_ble_eq_true rfl, Nat.le_of_ble_eq_true rfl⟩) (ep_preS hK hZ hw) rfl rfl hl.1 rfl (lv_room (Nat.le_of_ble_eq_true rfl)) dX4_count_79 ⟨Nat.le_of_ble_eq_true rfl, Nat.le_of_ble_eq_true rfl⟩) hw (fun H locs hw => ?_)
          refine lv_iadd hx hb dX4_count_82 ?_
          exact ep_retiW hx hb hr hlocks hw hf dX4_count_83
        · have hf := oi_f hf c5
          by_cases c6 : x1 = iI 4
          · have hf := oi_t hf c6
            refine lv_tableIn (off := 79) (tgt := 84) hx hb dX4_count_5 (by rw [ep_swIn c6 (by decide)]; decide) (by rw [ep_swIn c6 (by decide)]; decide) (by rw [ep_swIn c6 (by decide)]; rfl) (by decide) ?_
            refine lv_aload_n hx hb dX4_count_84 rfl (lv_at hl 0 rfl) ?_
            obtain ⟨v18, ev18, hf⟩ := ob_s hf
            refine ep_get (C := RX4) (T := TX4) (N := 32) (ci := 4) hx hb hts in_X4 hown hK hw rfl 14 (by decide) q1153 (gI_f ev18) dX4_count_85 ?_
            exact ep_retiW hx hb hr hlocks hw hf dX4_count_88
          · have hf := oi_f hf c6
            by_cases c7 : x1 = iI 5
            · have hf := oi_t hf c7
              refine lv_tableIn (off := 84) (tgt := 89) hx hb dX4_count_5 (by rw [ep_swIn c7 (by decide)]; decide) (by rw [ep_swIn c7 (by decide)]; decide) (by rw [ep_swIn c7 (by decide)]; rfl) (by decide) ?_
              refine lv_aload_n hx hb dX4_count_89 rfl (lv_at hl 0 rfl) ?_
              obtain ⟨r19, er19, hf⟩ := ob_s hf
              refine ep_get (C := RX4) (T := TX4) (N := 32) (ci := 4) hx hb hts in_X4 hown hK hw rfl 27 (by decide) q1166 (gR_f er19) dX4_count_90 ?_
              refine lv_iconst (v := iI 0) hx hb dX4_count_93 rfl ?_
              obtain ⟨v20, ev20, hf⟩ := ob_s hf
              refine ep_iald hx hb hK hw ev20 dX4_count_94 ?_
              refine lv_bipush (v := iI (-4)) hx hb dX4_count_95 (by decide) ?_
              refine lv_icmp_ne (tgt := 105) hx hb dX4_count_97 (by decide) (fun c21 => ?_) (fun c21 => ?_)
              · have hf := oi_f hf c21
                refine lv_aload_n hx hb dX4_count_105 rfl (lv_at hl 0 rfl) ?_
                obtain ⟨r22, er22, hf⟩ := ob_s hf
                refine ep_get (C := RX4) (T := TX4) (N := 32) (ci := 4) hx hb hts in_X4 hown hK hw rfl 28 (by decide) q1167 (gR_f er22) dX4_count_106 ?_
                refine lv_iconst (v := iI 0) hx hb dX4_count_109 rfl ?_
                obtain ⟨v23, ev23, hf⟩ := ob_s hf
                refine ep_iald hx hb hK hw ev23 dX4_count_110 ?_
                exact ep_retiW hx hb hr hlocks hw hf dX4_count_111
              · have hf := oi_t hf c21
                refine lv_bipush (v := iI (-4)) hx hb dX4_count_100 (by decide) ?_
                refine lv_goto (tgt := 111) hx hb dX4_count_102 (by decide) ?_
                exact ep_retiW hx hb hr hlocks hw hf dX4_count_111
            · have hf := oi_f hf c7
              refine lv_tableOut (tgt := 112) hx hb dX4_count_5 (ep_swOut (n := 6) (x := x1) (by decide) (lt_s (lt_s (lt_s (lt_s (lt_s (lt_s lt_0 c2) c3) c4) c5) c6) c7)) (by decide) ?_
              refine lv_iconst (v := iI (-1)) hx hb dX4_count_112 rfl ?_
              exact ep_retiW hx hb hr hlocks hw hf dX4_count_113
