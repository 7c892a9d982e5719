/-! walks (printed by gen.py) -/
set_option maxRecDepth 100000
theorem hdX0_ways : yX0_ways.cls = RX0 ∧ yX0_ways.cls ≠ "java/lang/invoke/MethodHandle" ∧ yX0_ways.cls ≠ "java/lang/invoke/VarHandle" ∧ (parseMethodDescriptor yX0_ways.desc).map (fun d => d.parameters.length) = some 4 := by decide +kernel
theorem ckX0_ways {d : Nat} {h : Hp} {a0 : Nat} {x1 : Int32} {x2 : Int32} {x3 : Int32} {x4 : Int32} {res : Hp} (hf : fX0_ways d h a0 x1 x2 x3 x4 = some res) : ep_cls h a0 = some 0 := by
  cases d with
  | zero => cases hf
  | succ d =>
  rw [fX0_ways] at hf
  unfold fX0_ways_B at hf
  exact (oi_c hf).1
abbrev wX0_ways (p : Program) (l : Launch) (e : Env) (s : State) (m : MethodId) (below : List Frame) (meth : Method) (c : Code) (G : EG) (d : Nat) (h : Hp) (a0 : Nat) (x1 : Int32) (x2 : Int32) (x3 : Int32) (x4 : Int32) (res : Hp) (k9 n9 : Nat) (H : Heap) (locs : List Loc) (g : JFrame) : Prop := W p l e (headSpec (ws_ yX0_ways cX0_ways 6 none) ({ frames := 15 + (d + 1), cells := 0, slots := 0, locals := 384 + (d + 1) * 25 } : Room)).room s m ([.ref a0, .int x1, .int x2, .int x3, .int x4] : List Value).toArray below meth c H locs k9 n9 (MQ below (ep_Qv G ep_cl res) ([.ref a0, .int x1, .int x2, .int x3, .int x4] : List Value).toArray s 0 0 (ep_A G)) g
set_option maxHeartbeats 4000000 in
theorem metX0_ways (l : Launch) (G : EG) : ∀ (d : Nat) (h : Hp) (a0 : Nat) (x1 : Int32) (x2 : Int32) (x3 : Int32) (x4 : Int32) {res : Hp} (hf : fX0_ways d h a0 x1 x2 x3 x4 = some res), Met l yX0_ways (ws_ yX0_ways cX0_ways 6 none) ({ frames := 15 + d, cells := 0, slots := 0, locals := 384 + d * 25 } : Room) (ep_Pc G ep_cl h [.ref a0, .int x1, .int x2, .int x3, .int x4]) (ep_Qv G ep_cl res) 0 0 (ep_A G) := by
  intro d
  induction d with
  | zero => intro h a0 x1 x2 x3 x4 res hf; cases hf
  | succ d ihM =>
  intro h a0 x1 x2 x3 x4 res hf
  refine Met.ofW (cc := cX0_ways) (maxL := 6) (ret := none) (by decide) rfl ?_
  intro p e s m args below meth c s₁ B hml hv
  obtain ⟨rfl, hR, hK, hZ⟩ := hv
  have hx := B.exec
  have hb := B.bytes
  have hr := B.returns
  have hlocks := B.notSynchronized
  have hts := atoms_spec (ws := (ws_ yX0_ways cX0_ways 6 none)) B.pre
  have hts : ∀ w ∈ lw_all, w.before _ s = true := fun w h => hts w (List.mem_cons_of_mem _ h)
  have hown : s.vm.findClass RX0 = some m.cls := findClass_of_methodNamed B.named
  have hw : ep_W G ep_cl h s s.heap [] := ⟨hR, va_S.rf⟩
  have hl := lv_entry ([.ref a0, .int x1, .int x2, .int x3, .int x4]) (n := 6) (Nat.le_of_ble_eq_true rfl)
  rw [lg_entry_eq]
  generalize (lg_sl ([.ref a0, .int x1, .int x2, .int x3, .int x4]) ++ List.replicate (6 - (lg_sl ([.ref a0, .int x1, .int x2, .int x3, .int x4])).length) Slot.unset).toArray = ls at hl ⊢
  have hl : lv_has ls 6 [(0, .ref a0), (1, .int x1), (2, .int x2), (3, .int x3), (4, .int x4)] := hl
  rw [fX0_ways] at hf
  unfold fX0_ways_B at hf
  have hf := (oi_c hf).2
  show wX0_ways p l e s m below meth c G d h a0 x1 x2 x3 x4 res 0 0 s.heap ([]) (F0 m 0 ls [])
  refine lv_iload_n hx hb dX0_ways_0 rfl (lv_at hl 1 rfl) ?_
  refine lv_aload_n hx hb dX0_ways_1 rfl (lv_at hl 0 rfl) ?_
  obtain ⟨r1, er1, hf⟩ := ob_s hf
  refine ep_get (C := RX0) (T := TX0) (N := 25) (ci := 0) hx hb hts in_X0 hown hK hw rfl 11 (by decide) q938 (gR_f er1) dX0_ways_2 ?_
  obtain ⟨v2, ev2, hf⟩ := ob_s hf
  refine ep_getN (C := RX1) (T := TX1) (N := 11) (ci := 1) hx hb hts in_X1 hown hK hw rfl 7 (by decide) q167 (gI_f ev2) dX0_ways_5 ?_
  refine lv_icmp_ne (tgt := 22) hx hb dX0_ways_8 (by decide) (fun c3 => ?_) (fun c3 => ?_)
  · have hf := oi_f hf c3
    refine lv_aload_n hx hb dX0_ways_22 rfl (lv_at hl 0 rfl) ?_
    obtain ⟨r4, er4, hf⟩ := ob_s hf
    refine ep_get (C := RX0) (T := TX0) (N := 25) (ci := 0) hx hb hts in_X0 hown hK hw rfl 3 (by decide) q930 (gR_f er4) dX0_ways_23 ?_
    refine lv_iload_n hx hb dX0_ways_26 rfl (lv_at hl 1 rfl) ?_
    obtain ⟨v5, ev5, hf⟩ := ob_s hf
    refine ep_calli0 (va_runV (As := [.int x1]) (rest := []) ⟨hx, hb, hml, hown, hts⟩ (metX1_isSold l G h r4 x1 ev5) (cwV 1 hts (lw_V q655 q554 q555 q86 q556) rfl rfl rfl hdX1_isSold ⟨by dsimp only [headSpec]; omega, by dsimp only [headSpec]; omega⟩) (ep_preV hK hZ hw rfl (ckX1_isSold ev5)) rfl rfl hl.1 rfl (lv_room (Nat.le_of_ble_eq_true rfl)) dX0_ways_27 ⟨Nat.le_of_ble_eq_true rfl, Nat.le_of_ble_eq_true rfl⟩) hw (fun H locs hw => ?_)
    refine lv_if_eq (tgt := 47) hx hb dX0_ways_30 (by decide) (fun c6 => ?_) (fun c6 => ?_)
    · have hf := oi_t hf c6
      refine lv_iconst (v := iI 0) hx hb dX0_ways_47 rfl ?_
      refine lv_istore (lv' := [(5, .int (iI 0)), (0, .ref a0), (1, .int x1), (2, .int x2), (3, .int x3), (4, .int x4)]) hx hb dX0_ways_48 hl (by decide) rfl (fun ls hl => ?_)
      obtain ⟨o7, ho7, hf⟩ := ob_s hf
      have hJ7 : ∀ (H : Heap) (locs : List Loc) (ls : Array Slot), ep_W G ep_cl o7 s H locs → lv_has ls 6 [(0, .ref a0), (1, .int x1)] → wX0_ways p l e s m below meth c G d h a0 x1 x2 x3 x4 res 0 0 H locs (F0 m 111 ls []) := by
        intro H locs ls hw hl
        refine lv_aload_n hx hb dX0_ways_111 rfl (lv_at hl 0 rfl) ?_
        obtain ⟨r21, er21, hf⟩ := ob_s hf
        refine ep_get (C := RX0) (T := TX0) (N := 25) (ci := 0) hx hb hts in_X0 hown hK hw rfl 11 (by decide) q938 (gR_f er21) dX0_ways_112 ?_
        obtain ⟨r22, er22, hf⟩ := ob_s hf
        refine ep_getN (C := RX1) (T := TX1) (N := 11) (ci := 1) hx hb hts in_X1 hown hK hw rfl 6 (by decide) q165 (gR_f er22) dX0_ways_115 ?_
        refine lv_iload_n hx hb dX0_ways_118 rfl (lv_at hl 1 rfl) ?_
        refine lv_bipush (v := iI (-4)) hx hb dX0_ways_119 (by decide) ?_
        obtain ⟨h23, eh23, hf⟩ := ob_s hf
        refine ep_iast hx hb hK hw eh23 dX0_ways_121 (fun H locs hw => ?_)
        exact ep_retvW hx hb hr hlocks hw hf dX0_ways_122
      have hL7 : ∀ (fu : Nat) (h : Hp) (x5 : Int32), fX0_ways_L50 (fX0_ways d) a0 x1 x2 x3 x4 fu h x5 = some o7 → ∀ (H : Heap) (locs : List Loc) (ls : Array Slot), ep_W G ep_cl h s H locs → lv_has ls 6 [(0, .ref a0), (1, .int x1), (2, .int x2), (3, .int x3), (4, .int x4), (5, .int x5)] → wX0_ways p l e s m below meth c G d h a0 x1 x2 x3 x4 res 0 0 H locs (F0 m 50 ls []) := by
        intro fu
        induction fu with
        | zero => intro h x5 ho7; cases ho7
        | succ fu ih7 =>
          intro h x5 ho7 H locs ls hw hl
          rw [fX0_ways_L50] at ho7
          refine lv_iload hx hb dX0_ways_50 (lv_at hl 5 rfl) ?_
          refine lv_aload_n hx hb dX0_ways_52 rfl (lv_at hl 0 rfl) ?_
          obtain ⟨v8, ev8, ho7⟩ := ob_s ho7
          refine ep_get (C := RX0) (T := TX0) (N := 25) (ci := 0) hx hb hts in_X0 hown hK hw rfl 4 (by decide) q931 (gI_f ev8) dX0_ways_53 ?_
          refine lv_icmp_ge (tgt := 111) hx hb dX0_ways_56 (by decide) (fun c9 => ?_) (fun c9 => ?_)
          · have ho7 := oi_t ho7 c9
            obtain rfl := Option.some.inj ho7
            exact hJ7 _ _ _ hw (lv_sub hl [0, 1] rfl)
          · have ho7 := oi_f ho7 c9
            refine lv_aload_n hx hb dX0_ways_59 rfl (lv_at hl 0 rfl) ?_
            obtain ⟨r10, er10, ho7⟩ := ob_s ho7
            refine ep_get (C := RX0) (T := TX0) (N := 25) (ci := 0) hx hb hts in_X0 hown hK hw rfl 11 (by decide) q938 (gR_f er10) dX0_ways_60 ?_
            obtain ⟨r11, er11, ho7⟩ := ob_s ho7
            refine ep_getN (C := RX1) (T := TX1) (N := 11) (ci := 1) hx hb hts in_X1 hown hK hw rfl 6 (by decide) q165 (gR_f er11) dX0_ways_63 ?_
            refine lv_iload_n hx hb dX0_ways_66 rfl (lv_at hl 1 rfl) ?_
            refine lv_bipush (v := iI (-4)) hx hb dX0_ways_67 (by decide) ?_
            obtain ⟨h12, eh12, ho7⟩ := ob_s ho7
            refine ep_iast hx hb hK hw eh12 dX0_ways_69 (fun H locs hw => ?_)
            refine lv_aload_n hx hb dX0_ways_70 rfl (lv_at hl 0 rfl) ?_
            refine lv_aload_n hx hb dX0_ways_71 rfl (lv_at hl 0 rfl) ?_
            obtain ⟨r13, er13, ho7⟩ := ob_s ho7
            refine ep_get (C := RX0) (T := TX0) (N := 25) (ci := 0) hx hb hts in_X0 hown hK hw rfl 11 (by decide) q938 (gR_f er13) dX0_ways_72 ?_
            refine lv_iload hx hb dX0_ways_75 (lv_at hl 5 rfl) ?_
            obtain ⟨v14, ev14, ho7⟩ := ob_s ho7
            refine ep_calli0 (va_runV (As := [.ref r13, .int x5]) (rest := []) ⟨hx, hb, hml, hown, hts⟩ (metX0_hasRoom l G h12 a0 r13 x5 ev14) (cwV 2 hts (lw_V q630 q632 qs18 q85 q633) rfl rfl rfl hdX0_hasRoom ⟨by dsimp only [headSpec]; omega, by dsimp only [headSpec]; omega⟩) (ep_preV hK hZ hw rfl (ckX0_hasRoom ev14)) rfl rfl hl.1 rfl (lv_room (Nat.le_of_ble_eq_true rfl)) dX0_ways_77 ⟨Nat.le_of_ble_eq_true rfl, Nat.le_of_ble_eq_true rfl⟩) hw (fun H locs hw => ?_)
            obtain ⟨o15, ho15, ho7⟩ := ob_s ho7
            have hJ15 : ∀ (H : Heap) (locs : List Loc) (ls : Array Slot), ep_W G ep_cl o15 s H locs → lv_has ls 6 [(0, .ref a0), (1, .int x1), (2, .int x2), (3, .int x3), (4, .int x4), (5, .int x5)] → wX0_ways p l e s m below meth c G d h a0 x1 x2 x3 x4 res 0 0 H locs (F0 m 105 ls []) := by
              intro H locs ls hw hl
              refine lv_iinc (v := (x5 + iI 1)) (lv' := [(5, .int (x5 + iI 1)), (0, .ref a0), (1, .int x1), (2, .int x2), (3, .int x3), (4, .int x4)]) hx hb dX0_ways_105 hl (k := 5) rfl rfl (by decide) rfl (fun ls hl => ?_)
              refine lv_goto (tgt := 50) hx hb dX0_ways_108 (by decide) ?_
              exact ih7 _ _ ho7 _ _ _ hw (lv_sub hl [1, 2, 3, 4, 5, 0] rfl)
            refine lv_if_eq (tgt := 105) hx hb dX0_ways_80 (by decide) (fun c16 => ?_) (fun c16 => ?_)
            · have ho15 := oi_t ho15 c16
              obtain rfl := Option.some.inj ho15
              exact hJ15 _ _ _ hw (lv_sub hl [0, 1, 2, 3, 4, 5] rfl)
            · have ho15 := oi_f ho15 c16
              refine lv_aload_n hx hb dX0_ways_83 rfl (lv_at hl 0 rfl) ?_
              obtain ⟨r17, er17, ho15⟩ := ob_s ho15
              refine ep_get (C := RX0) (T := TX0) (N := 25) (ci := 0) hx hb hts in_X0 hown hK hw rfl 11 (by decide) q938 (gR_f er17) dX0_ways_84 ?_
              obtain ⟨r18, er18, ho15⟩ := ob_s ho15
              refine ep_getN (C := RX1) (T := TX1) (N := 11) (ci := 1) hx hb hts in_X1 hown hK hw rfl 6 (by decide) q165 (gR_f er18) dX0_ways_87 ?_
              refine lv_iload_n hx hb dX0_ways_90 rfl (lv_at hl 1 rfl) ?_
              refine lv_iload hx hb dX0_ways_91 (lv_at hl 5 rfl) ?_
              obtain ⟨h19, eh19, ho15⟩ := ob_s ho15
              refine ep_iast hx hb hK hw eh19 dX0_ways_93 (fun H locs hw => ?_)
              refine lv_aload_n hx hb dX0_ways_94 rfl (lv_at hl 0 rfl) ?_
              refine lv_iload_n hx hb dX0_ways_95 rfl (lv_at hl 1 rfl) ?_
              refine lv_iconst (v := iI 1) hx hb dX0_ways_96 rfl ?_
              refine lv_iadd hx hb dX0_ways_97 ?_
              refine lv_iload_n hx hb dX0_ways_98 rfl (lv_at hl 2 rfl) ?_
              refine lv_iload_n hx hb dX0_ways_99 rfl (lv_at hl 3 rfl) ?_
              refine lv_iload hx hb dX0_ways_100 (lv_at hl 4 rfl) ?_
              obtain ⟨o20, eo20, ho15⟩ := ob_s ho15
              refine ep_callv0 (va_runV (As := [.int (x1 + (iI 1)), .int x2, .int x3, .int x4]) (rest := []) ⟨hx, hb, hml, hown, hts⟩ (ihM h19 a0 (x1 + (iI 1)) x2 x3 x4 eo20) (cwV 4 hts (lw_V q789 q791 qs28 q85 q792) rfl rfl rfl hdX0_ways ⟨by dsimp only [headSpec]; omega, by dsimp only [headSpec]; omega⟩) (ep_preV hK hZ hw rfl (ckX0_ways eo20)) rfl rfl hl.1 rfl (lv_room (Nat.le_of_ble_eq_true rfl)) dX0_ways_102 ⟨Nat.le_of_ble_eq_true rfl, Nat.le_of_ble_eq_true rfl⟩) hw (fun H locs hw => ?_)
              obtain rfl := Option.some.inj ho15
              exact hJ15 _ _ _ hw (lv_sub hl [0, 1, 2, 3, 4, 5] rfl)
      exact hL7 FUEL _ _ ho7 _ _ _ hw (lv_sub hl [1, 2, 3, 4, 5, 0] rfl)
    · have hf := oi_f hf c6
      refine lv_aload_n hx hb dX0_ways_33 rfl (lv_at hl 0 rfl) ?_
      refine lv_iload_n hx hb dX0_ways_34 rfl (lv_at hl 1 rfl) ?_
      refine lv_iconst (v := iI 1) hx hb dX0_ways_35 rfl ?_
      refine lv_iadd hx hb dX0_ways_36 ?_
      refine lv_iload_n hx hb dX0_ways_37 rfl (lv_at hl 2 rfl) ?_
      refine lv_iload_n hx hb dX0_ways_38 rfl (lv_at hl 3 rfl) ?_
      refine lv_iload hx hb dX0_ways_39 (lv_at hl 4 rfl) ?_
      obtain ⟨o24, eo24, hf⟩ := ob_s hf
      refine ep_callv0 (va_runV (As := [.int (x1 + (iI 1)), .int x2, .int x3, .int x4]) (rest := []) ⟨hx, hb, hml, hown, hts⟩ (ihM h a0 (x1 + (iI 1)) x2 x3 x4 eo24) (cwV 4 hts (lw_V q789 q791 qs28 q85 q792) rfl rfl rfl hdX0_ways ⟨by dsimp only [headSpec]; omega, by dsimp only [headSpec]; omega⟩) (ep_preV hK hZ hw rfl (ckX0_ways eo24)) rfl rfl hl.1 rfl (lv_room (Nat.le_of_ble_eq_true rfl)) dX0_ways_41 ⟨Nat.le_of_ble_eq_true rfl, Nat.le_of_ble_eq_true rfl⟩) hw (fun H locs hw => ?_)
      refine lv_goto (tgt := 122) hx hb dX0_ways_44 (by decide) ?_
      exact ep_retvW hx hb hr hlocks hw hf dX0_ways_122
  · have hf := oi_t hf c3
    refine lv_aload_n hx hb dX0_ways_11 rfl (lv_at hl 0 rfl) ?_
    refine lv_iload_n hx hb dX0_ways_12 rfl (lv_at hl 2 rfl) ?_
    refine lv_iload_n hx hb dX0_ways_13 rfl (lv_at hl 3 rfl) ?_
    refine lv_iload hx hb dX0_ways_14 (lv_at hl 4 rfl) ?_
    obtain ⟨o25, eo25, hf⟩ := ob_s hf
    refine ep_callv0 (va_runV (As := [.int x2, .int x3, .int x4]) (rest := []) ⟨hx, hb, hml, hown, hts⟩ (metX0_weighs l G h a0 x2 x3 x4 eo25) (cwV 3 hts (lw_V q793 q795 qs29 q85 q796) rfl rfl rfl hdX0_weighs ⟨by dsimp only [headSpec]; omega, by dsimp only [headSpec]; omega⟩) (ep_preV hK hZ hw rfl (ckX0_weighs eo25)) rfl rfl hl.1 rfl (lv_room (Nat.le_of_ble_eq_true rfl)) dX0_ways_16 ⟨Nat.le_of_ble_eq_true rfl, Nat.le_of_ble_eq_true rfl⟩) hw (fun H locs hw => ?_)
    refine lv_goto (tgt := 122) hx hb dX0_ways_19 (by decide) ?_
    exact ep_retvW hx hb hr hlocks hw hf dX0_ways_122
theorem hdX0_allWays : yX0_allWays.cls = RX0 ∧ yX0_allWays.cls ≠ "java/lang/invoke/MethodHandle" ∧ yX0_allWays.cls ≠ "java/lang/invoke/VarHandle" ∧ (parseMethodDescriptor yX0_allWays.desc).map (fun d => d.parameters.length) = some 3 := by decide +kernel
theorem ckX0_allWays {h : Hp} {a0 : Nat} {x1 : Int32} {x2 : Int32} {x3 : Int32} {res : Hp} (hf : fX0_allWays h a0 x1 x2 x3 = some res) : ep_cls h a0 = some 0 := by
  unfold fX0_allWays at hf
  exact (oi_c hf).1
abbrev wX0_allWays (p : Program) (l : Launch) (e : Env) (s : State) (m : MethodId) (below : List Frame) (meth : Method) (c : Code) (G : EG) (h : Hp) (a0 : Nat) (x1 : Int32) (x2 : Int32) (x3 : Int32) (res : Hp) (k9 n9 : Nat) (H : Heap) (locs : List Loc) (g : JFrame) : Prop := W p l e (headSpec (ws_ yX0_allWays cX0_allWays 5 none) ({ frames := 23, cells := 0, slots := 0, locals := 584 } : Room)).room s m ([.ref a0, .int x1, .int x2, .int x3] : List Value).toArray below meth c H locs k9 n9 (MQ below (ep_Qv G ep_cl res) ([.ref a0, .int x1, .int x2, .int x3] : List Value).toArray s 0 0 (ep_A G)) g
set_option maxHeartbeats 4000000 in
theorem metX0_allWays (l : Launch) (G : EG) (h : Hp) (a0 : Nat) (x1 : Int32) (x2 : Int32) (x3 : Int32) {res : Hp} (hf : fX0_allWays h a0 x1 x2 x3 = some res) : Met l yX0_allWays (ws_ yX0_allWays cX0_allWays 5 none) ({ frames := 23, cells := 0, slots := 0, locals := 584 } : Room) (ep_Pc G ep_cl h [.ref a0, .int x1, .int x2, .int x3]) (ep_Qv G ep_cl res) 0 0 (ep_A G) := by
  refine Met.ofW (cc := cX0_allWays) (maxL := 5) (ret := none) (by decide) rfl ?_
  intro p e s m args below meth c s₁ B hml hv
  obtain ⟨rfl, hR, hK, hZ⟩ := hv
  have hx := B.exec
  have hb := B.bytes
  have hr := B.returns
  have hlocks := B.notSynchronized
  have hts := atoms_spec (ws := (ws_ yX0_allWays cX0_allWays 5 none)) B.pre
  have hts : ∀ w ∈ lw_all, w.before _ s = true := fun w h => hts w (List.mem_cons_of_mem _ h)
  have hown : s.vm.findClass RX0 = some m.cls := findClass_of_methodNamed B.named
  have hw : ep_W G ep_cl h s s.heap [] := ⟨hR, va_S.rf⟩
  have hl := lv_entry ([.ref a0, .int x1, .int x2, .int x3]) (n := 5) (Nat.le_of_ble_eq_true rfl)
  rw [lg_entry_eq]
  generalize (lg_sl ([.ref a0, .int x1, .int x2, .int x3]) ++ List.replicate (5 - (lg_sl ([.ref a0, .int x1, .int x2, .int x3])).length) Slot.unset).toArray = ls at hl ⊢
  have hl : lv_has ls 5 [(0, .ref a0), (1, .int x1), (2, .int x2), (3, .int x3)] := hl
  unfold fX0_allWays at hf
  have hf := (oi_c hf).2
  show wX0_allWays p l e s m below meth c G h a0 x1 x2 x3 res 0 0 s.heap ([]) (F0 m 0 ls [])
  refine lv_aload_n hx hb dX0_allWays_0 rfl (lv_at hl 0 rfl) ?_
  obtain ⟨r1, er1, hf⟩ := ob_s hf
  refine ep_get (C := RX0) (T := TX0) (N := 25) (ci := 0) hx hb hts in_X0 hown hK hw rfl 11 (by decide) q938 (gR_f er1) dX0_allWays_1 ?_
  refine lv_aload_n hx hb dX0_allWays_4 rfl (lv_at hl 0 rfl) ?_
  obtain ⟨r2, er2, hf⟩ := ob_s hf
  refine ep_get (C := RX0) (T := TX0) (N := 25) (ci := 0) hx hb hts in_X0 hown hK hw rfl 3 (by decide) q930 (gR_f er2) dX0_allWays_5 ?_
  obtain ⟨o3, eo3, hf⟩ := ob_s hf
  refine ep_callv0 (va_runV (As := [.ref r2]) (rest := []) ⟨hx, hb, hml, hown, hts⟩ (metX1_takes l G h r1 r2 eo3) (cwV 1 hts (lw_V q535 q536 q537 q86 q538) rfl rfl rfl hdX1_takes ⟨Nat.le_of_ble_eq_true rfl, Nat.le_of_ble_eq_true rfl⟩) (ep_preV hK hZ hw rfl (ckX1_takes eo3)) rfl rfl hl.1 rfl (lv_room (Nat.le_of_ble_eq_true rfl)) dX0_allWays_8 ⟨Nat.le_of_ble_eq_true rfl, Nat.le_of_ble_eq_true rfl⟩) hw (fun H locs hw => ?_)
  refine lv_iconst (v := iI 0) hx hb dX0_allWays_11 rfl ?_
  refine lv_istore (lv' := [(4, .int (iI 0)), (0, .ref a0), (1, .int x1), (2, .int x2), (3, .int x3)]) hx hb dX0_allWays_12 hl (by decide) rfl (fun ls hl => ?_)
  obtain ⟨o4, ho4, hf⟩ := ob_s hf
  have hJ4 : ∀ (H : Heap) (locs : List Loc) (ls : Array Slot), ep_W G ep_cl o4 s H locs → lv_has ls 5 [(0, .ref a0), (1, .int x1), (2, .int x2), (3, .int x3)] → wX0_allWays p l e s m below meth c G h a0 x1 x2 x3 res 0 0 H locs (F0 m 54 ls []) := by
    intro H locs ls hw hl
    refine lv_aload_n hx hb dX0_allWays_54 rfl (lv_at hl 0 rfl) ?_
    obtain ⟨r13, er13, hf⟩ := ob_s hf
    refine ep_get (C := RX0) (T := TX0) (N := 25) (ci := 0) hx hb hts in_X0 hown hK hw rfl 16 (by decide) q943 (gR_f er13) dX0_allWays_55 ?_
    refine lv_iconst (v := iI 5) hx hb dX0_allWays_58 rfl ?_
    refine lv_iconst (v := iI 0) hx hb dX0_allWays_59 rfl ?_
    obtain ⟨h14, eh14, hf⟩ := ob_s hf
    refine ep_iast hx hb hK hw eh14 dX0_allWays_60 (fun H locs hw => ?_)
    refine lv_aload_n hx hb dX0_allWays_61 rfl (lv_at hl 0 rfl) ?_
    refine lv_iconst (v := iI 0) hx hb dX0_allWays_62 rfl ?_
    obtain ⟨h15, eh15, hf⟩ := ob_s hf
    refine ep_put (C := RX0) (T := TX0) (N := 25) (ci := 0) hx hb hts in_X0 tyX0 tyX0_ok nmX0 hown hK hw rfl (by decide) 14 (by decide) q941 rfl rfl rfl eh15 dX0_allWays_63 (fun H locs hw => ?_)
    refine lv_aload_n hx hb dX0_allWays_66 rfl (lv_at hl 0 rfl) ?_
    refine lv_bipush (v := iI (-4)) hx hb dX0_allWays_67 (by decide) ?_
    obtain ⟨h16, eh16, hf⟩ := ob_s hf
    refine ep_put (C := RX0) (T := TX0) (N := 25) (ci := 0) hx hb hts in_X0 tyX0 tyX0_ok nmX0 hown hK hw rfl (by decide) 13 (by decide) q940 rfl rfl rfl eh16 dX0_allWays_69 (fun H locs hw => ?_)
    refine lv_aload_n hx hb dX0_allWays_72 rfl (lv_at hl 0 rfl) ?_
    refine lv_iconst (v := iI 0) hx hb dX0_allWays_73 rfl ?_
    refine lv_iload_n hx hb dX0_allWays_74 rfl (lv_at hl 1 rfl) ?_
    refine lv_iload_n hx hb dX0_allWays_75 rfl (lv_at hl 2 rfl) ?_
    refine lv_iload_n hx hb dX0_allWays_76 rfl (lv_at hl 3 rfl) ?_
    obtain ⟨o17, eo17, hf⟩ := ob_s hf
    refine ep_callv0 (va_runV (As := [.int (iI 0), .int x1, .int x2, .int x3]) (rest := []) ⟨hx, hb, hml, hown, hts⟩ (metX0_ways l G 7 h16 a0 (iI 0) x1 x2 x3 eo17) (cwV 4 hts (lw_V q789 q791 qs28 q85 q792) rfl rfl rfl hdX0_ways ⟨Nat.le_of_ble_eq_true rfl, Nat.le_of_ble_eq_true rfl⟩) (ep_preV hK hZ hw rfl (ckX0_ways eo17)) rfl rfl hl.1 rfl (lv_room (Nat.le_of_ble_eq_true rfl)) dX0_allWays_77 ⟨Nat.le_of_ble_eq_true rfl, Nat.le_of_ble_eq_true rfl⟩) hw (fun H locs hw => ?_)
    exact ep_retvW hx hb hr hlocks hw hf dX0_allWays_80
  have hL4 : ∀ (fu : Nat) (h : Hp) (x4 : Int32), fX0_allWays_L14 a0 x1 x2 x3 fu h x4 = some o4 → ∀ (H : Heap) (locs : List Loc) (ls : Array Slot), ep_W G ep_cl h s H locs → lv_has ls 5 [(0, .ref a0), (1, .int x1), (2, .int x2), (3, .int x3), (4, .int x4)] → wX0_allWays p l e s m below meth c G h a0 x1 x2 x3 res 0 0 H locs (F0 m 14 ls []) := by
    intro fu
    induction fu with
    | zero => intro h x4 ho4; cases ho4
    | succ fu ih4 =>
      intro h x4 ho4 H locs ls hw hl
      rw [fX0_allWays_L14] at ho4
      refine lv_iload hx hb dX0_allWays_14 (lv_at hl 4 rfl) ?_
      refine lv_iconst (v := iI 5) hx hb dX0_allWays_16 rfl ?_
      refine lv_icmp_ge (tgt := 54) hx hb dX0_allWays_17 (by decide) (fun c5 => ?_) (fun c5 => ?_)
      · have ho4 := oi_t ho4 c5
        obtain rfl := Option.some.inj ho4
        exact hJ4 _ _ _ hw (lv_sub hl [0, 1, 2, 3] rfl)
      · have ho4 := oi_f ho4 c5
        refine lv_aload_n hx hb dX0_allWays_20 rfl (lv_at hl 0 rfl) ?_
        obtain ⟨r6, er6, ho4⟩ := ob_s ho4
        refine ep_get (C := RX0) (T := TX0) (N := 25) (ci := 0) hx hb hts in_X0 hown hK hw rfl 11 (by decide) q938 (gR_f er6) dX0_allWays_21 ?_
        obtain ⟨r7, er7, ho4⟩ := ob_s ho4
        refine ep_getN (C := RX1) (T := TX1) (N := 11) (ci := 1) hx hb hts in_X1 hown hK hw rfl 6 (by decide) q165 (gR_f er7) dX0_allWays_24 ?_
        refine lv_iload hx hb dX0_allWays_27 (lv_at hl 4 rfl) ?_
        refine lv_bipush (v := iI (-4)) hx hb dX0_allWays_29 (by decide) ?_
        obtain ⟨h8, eh8, ho4⟩ := ob_s ho4
        refine ep_iast hx hb hK hw eh8 dX0_allWays_31 (fun H locs hw => ?_)
        refine lv_aload_n hx hb dX0_allWays_32 rfl (lv_at hl 0 rfl) ?_
        obtain ⟨r9, er9, ho4⟩ := ob_s ho4
        refine ep_get (C := RX0) (T := TX0) (N := 25) (ci := 0) hx hb hts in_X0 hown hK hw rfl 15 (by decide) q942 (gR_f er9) dX0_allWays_33 ?_
        refine lv_iload hx hb dX0_allWays_36 (lv_at hl 4 rfl) ?_
        refine lv_iconst (v := iI 0) hx hb dX0_allWays_38 rfl ?_
        obtain ⟨h10, eh10, ho4⟩ := ob_s ho4
        refine ep_iast hx hb hK hw eh10 dX0_allWays_39 (fun H locs hw => ?_)
        refine lv_aload_n hx hb dX0_allWays_40 rfl (lv_at hl 0 rfl) ?_
        obtain ⟨r11, er11, ho4⟩ := ob_s ho4
        refine ep_get (C := RX0) (T := TX0) (N := 25) (ci := 0) hx hb hts in_X0 hown hK hw rfl 16 (by decide) q943 (gR_f er11) dX0_allWays_41 ?_
        refine lv_iload hx hb dX0_allWays_44 (lv_at hl 4 rfl) ?_
        refine lv_iconst (v := iI 0) hx hb dX0_allWays_46 rfl ?_
        obtain ⟨h12, eh12, ho4⟩ := ob_s ho4
        refine ep_iast hx hb hK hw eh12 dX0_allWays_47 (fun H locs hw => ?_)
        refine lv_iinc (v := (x4 + iI 1)) (lv' := [(4, .int (x4 + iI 1)), (0, .ref a0), (1, .int x1), (2, .int x2), (3, .int x3)]) hx hb dX0_allWays_48 hl (k := 4) rfl rfl (by decide) rfl (fun ls hl => ?_)
        refine lv_goto (tgt := 14) hx hb dX0_allWays_51 (by decide) ?_
        exact ih4 _ _ ho4 _ _ _ hw (lv_sub hl [1, 2, 3, 4, 0] rfl)
  exact hL4 FUEL _ _ ho4 _ _ _ hw (lv_sub hl [1, 2, 3, 4, 0] rfl)
theorem hdX0_best : yX0_best.cls = RX0 ∧ yX0_best.cls ≠ "java/lang/invoke/MethodHandle" ∧ yX0_best.cls ≠ "java/lang/invoke/VarHandle" ∧ (parseMethodDescriptor yX0_best.desc).map (fun d => d.parameters.length) = some 2 := by decide +kernel
theorem ckX0_best {h : Hp} {a0 : Nat} {x1 : Int32} {x2 : Int32} {res : Int32 × Hp} (hf : fX0_best h a0 x1 x2 = some res) : ep_cls h a0 = some 0 := by
  unfold fX0_best at hf
  exact (oi_c hf).1
abbrev wX0_best (p : Program) (l : Launch) (e : Env) (s : State) (m : MethodId) (below : List Frame) (meth : Method) (c : Code) (G : EG) (h : Hp) (a0 : Nat) (x1 : Int32) (x2 : Int32) (res : Int32 × Hp) (k9 n9 : Nat) (H : Heap) (locs : List Loc) (g : JFrame) : Prop := W p l e (headSpec (ws_ yX0_best cX0_best 3 (some .int)) ({ frames := 24, cells := 0, slots := 0, locals := 608 } : Room)).room s m ([.ref a0, .int x1, .int x2] : List Value).toArray below meth c H locs k9 n9 (MQ below (ep_Qi G ep_cl res.2 res.1) ([.ref a0, .int x1, .int x2] : List Value).toArray s 0 0 (ep_A G)) g
set_option maxHeartbeats 4000000 in
theorem metX0_best (l : Launch) (G : EG) (h : Hp) (a0 : Nat) (x1 : Int32) (x2 : Int32) {res : Int32 × Hp} (hf : fX0_best h a0 x1 x2 = some res) : Met l yX0_best (ws_ yX0_best cX0_best 3 (some .int)) ({ frames := 24, cells := 0, slots := 0, locals := 608 } : Room) (ep_Pc G ep_cl h [.ref a0, .int x1, .int x2]) (ep_Qi G ep_cl res.2 res.1) 0 0 (ep_A G) := by
  refine Met.ofW (cc := cX0_best) (maxL := 3) (ret := (some .int)) (by decide) rfl ?_
  intro p e s m args below meth c s₁ B hml hv
  obtain ⟨rfl, hR, hK, hZ⟩ := hv
  have hx := B.exec
  have hb := B.bytes
  have hr := B.returns
  have hlocks := B.notSynchronized
  have hts := atoms_spec (ws := (ws_ yX0_best cX0_best 3 (some .int))) B.pre
  have hts : ∀ w ∈ lw_all, w.before _ s = true := fun w h => hts w (List.mem_cons_of_mem _ h)
  have hown : s.vm.findClass RX0 = some m.cls := findClass_of_methodNamed B.named
  have hw : ep_W G ep_cl h s s.heap [] := ⟨hR, va_S.rf⟩
  have hl := lv_entry ([.ref a0, .int x1, .int x2]) (n := 3) (Nat.le_of_ble_eq_true rfl)
  rw [lg_entry_eq]
  generalize (lg_sl ([.ref a0, .int x1, .int x2]) ++ List.replicate (3 - (lg_sl ([.ref a0, .int x1, .int x2])).length) Slot.unset).toArray = ls at hl ⊢
  have hl : lv_has ls 3 [(0, .ref a0), (1, .int x1), (2, .int x2)] := hl
  unfold fX0_best at hf
  have hf := (oi_c hf).2
  show wX0_best p l e s m below meth c G h a0 x1 x2 res 0 0 s.heap ([]) (F0 m 0 ls [])
  refine lv_iload_n hx hb dX0_best_0 rfl (lv_at hl 1 rfl) ?_
  refine lv_i2l (v := x1.toInt64) hx hb dX0_best_1 rfl ?_
  refine lv_lconst (v := lI 0) hx hb dX0_best_2 (by decide) ?_
  refine lv_ldc2 (v := (8 : Int64)) hx hb hown (hts _ q784) dX0_best_3 ?_
  obtain ⟨v1, ev1, hf⟩ := ob_s hf
  refine ep_calli0 (va_runS (As := [.long x1.toInt64, .long (lI 0), .long (8 : Int64)]) (rest := []) ⟨hx, hb, hml, hown, hts⟩ (metX0_isIn l G h x1.toInt64 (lI 0) (8 : Int64) ev1) (va_cwS 3 hts (lw_S q114 q115 q85 q116) rfl rfl rfl hsX0_isIn ⟨Nat.le_of_ble_eq_true rfl, Nat.le_of_ble_eq_true rfl⟩) (ep_preS hK hZ hw) rfl rfl hl.1 rfl (lv_room (Nat.le_of_ble_eq_true rfl)) dX0_best_6 ⟨Nat.le_of_ble_eq_true rfl, Nat.le_of_ble_eq_true rfl⟩) hw (fun H locs hw => ?_)
  refine lv_if_eq (tgt := 40) hx hb dX0_best_9 (by decide) (fun c2 => ?_) (fun c2 => ?_)
  · have hf := oi_t hf c2
    refine lv_iconst (v := iI (-1)) hx hb dX0_best_40 rfl ?_
    exact ep_retiW hx hb hr hlocks hw hf dX0_best_41
  · have hf := oi_f hf c2
    refine lv_iload_n hx hb dX0_best_12 rfl (lv_at hl 2 rfl) ?_
    obtain ⟨ox3, ho3, hk3⟩ := orL_s hf
    have hT3 : ∀ r, ox3 = .inl r → some r = some res := fun r eo => (by have e := orL_1 hk3 eo; exact e)
    have hJ3 : ∀ o3, ox3 = .inr o3 → ∀ (H : Heap) (locs : List Loc) (ls : Array Slot), ep_W G ep_cl h s H locs → lv_has ls 3 [(0, .ref a0), (1, .int x1), (2, .int x2)] → wX0_best p l e s m below meth c G h a0 x1 x2 res 0 0 H locs (F0 m 42 ls []) := by
      intro o3 eo H locs ls hw hl
      have hf := orL_2 hk3 eo
      refine lv_aload_n hx hb dX0_best_42 rfl (lv_at hl 0 rfl) ?_
      refine lv_iload_n hx hb dX0_best_43 rfl (lv_at hl 1 rfl) ?_
      refine lv_iconst (v := iI 0) hx hb dX0_best_44 rfl ?_
      refine lv_iconst (v := iI 0) hx hb dX0_best_45 rfl ?_
      obtain ⟨o9, eo9, hf⟩ := ob_s hf
      refine ep_callv0 (va_runV (As := [.int x1, .int (iI 0), .int (iI 0)]) (rest := []) ⟨hx, hb, hml, hown, hts⟩ (metX0_allWays l G h a0 x1 (iI 0) (iI 0) eo9) (cwV 3 hts (lw_V q785 q787 qs27 q85 q788) rfl rfl rfl hdX0_allWays ⟨Nat.le_of_ble_eq_true rfl, Nat.le_of_ble_eq_true rfl⟩) (ep_preV hK hZ hw rfl (ckX0_allWays eo9)) rfl rfl hl.1 rfl (lv_room (Nat.le_of_ble_eq_true rfl)) dX0_best_46 ⟨Nat.le_of_ble_eq_true rfl, Nat.le_of_ble_eq_true rfl⟩) hw (fun H locs hw => ?_)
      refine lv_iload_n hx hb dX0_best_49 rfl (lv_at hl 2 rfl) ?_
      refine lv_if_ne (tgt := 60) hx hb dX0_best_50 (by decide) (fun c10 => ?_) (fun c10 => ?_)
      · have hf := oi_f hf c10
        refine lv_aload_n hx hb dX0_best_60 rfl (lv_at hl 0 rfl) ?_
        obtain ⟨r11, er11, hf⟩ := ob_s hf
        refine ep_get (C := RX0) (T := TX0) (N := 25) (ci := 0) hx hb hts in_X0 hown hK hw rfl 12 (by decide) q939 (gR_f er11) dX0_best_61 ?_
        refine lv_iload_n hx hb dX0_best_64 rfl (lv_at hl 2 rfl) ?_
        refine lv_bipush (v := iI 10) hx hb dX0_best_65 (by decide) ?_
        refine lv_isub hx hb dX0_best_67 ?_
        obtain ⟨v12, ev12, hf⟩ := ob_s hf
        refine ep_iald hx hb hK hw ev12 dX0_best_68 ?_
        exact ep_retiW hx hb hr hlocks hw hf dX0_best_69
      · have hf := oi_t hf c10
        refine lv_aload_n hx hb dX0_best_53 rfl (lv_at hl 0 rfl) ?_
        obtain ⟨v13, ev13, hf⟩ := ob_s hf
        refine ep_get (C := RX0) (T := TX0) (N := 25) (ci := 0) hx hb hts in_X0 hown hK hw rfl 13 (by decide) q940 (gI_f ev13) dX0_best_54 ?_
        refine lv_goto (tgt := 69) hx hb dX0_best_57 (by decide) ?_
        exact ep_retiW hx hb hr hlocks hw hf dX0_best_69
    refine lv_if_eq (tgt := 42) hx hb dX0_best_13 (by decide) (fun c4 => ?_) (fun c4 => ?_)
    · have ho3 := oi_t ho3 c4
      exact hJ3 _ (Option.some.inj ho3).symm _ _ _ hw (lv_sub hl [0, 1, 2] rfl)
    · have ho3 := oi_f ho3 c4
      refine lv_iload_n hx hb dX0_best_16 rfl (lv_at hl 2 rfl) ?_
      refine lv_i2l (v := x2.toInt64) hx hb dX0_best_17 rfl ?_
      refine lv_ldc2 (v := (10 : Int64)) hx hb hown (hts _ q621) dX0_best_18 ?_
      refine lv_bipush (v := iI 10) hx hb dX0_best_21 (by decide) ?_
      refine lv_aload_n hx hb dX0_best_23 rfl (lv_at hl 0 rfl) ?_
      obtain ⟨r5, er5, ho3⟩ := ob_s ho3
      refine ep_get (C := RX0) (T := TX0) (N := 25) (ci := 0) hx hb hts in_X0 hown hK hw rfl 3 (by decide) q930 (gR_f er5) dX0_best_24 ?_
      obtain ⟨v6, ev6, ho3⟩ := ob_s ho3
      refine ep_getN (C := RX1) (T := TX1) (N := 11) (ci := 1) hx hb hts in_X1 hown hK hw rfl 7 (by decide) q167 (gI_f ev6) dX0_best_27 ?_
      refine lv_iadd hx hb dX0_best_30 ?_
      refine lv_iconst (v := iI 1) hx hb dX0_best_31 rfl ?_
      refine lv_isub hx hb dX0_best_32 ?_
      refine lv_i2l (v := (((iI 10) + v6) - (iI 1)).toInt64) hx hb dX0_best_33 rfl ?_
      obtain ⟨v7, ev7, ho3⟩ := ob_s ho3
      refine ep_calli0 (va_runS (As := [.long x2.toInt64, .long (10 : Int64), .long ((((iI 10) + v6) - (iI 1)).toInt64)]) (rest := []) ⟨hx, hb, hml, hown, hts⟩ (metX0_isIn l G h x2.toInt64 (10 : Int64) ((((iI 10) + v6) - (iI 1)).toInt64) ev7) (va_cwS 3 hts (lw_S q114 q115 q85 q116) rfl rfl rfl hsX0_isIn ⟨Nat.le_of_ble_eq_true rfl, Nat.le_of_ble_eq_true rfl⟩) (ep_preS hK hZ hw) rfl rfl hl.1 rfl (lv_room (Nat.le_of_ble_eq_true rfl)) dX0_best_34 ⟨Nat.le_of_ble_eq_true rfl, Nat.le_of_ble_eq_true rfl⟩) hw (fun H locs hw => ?_)
      refine lv_if_ne (tgt := 42) hx hb dX0_best_37 (by decide) (fun c8 => ?_) (fun c8 => ?_)
      · have ho3 := oi_f ho3 c8
        exact hJ3 _ (Option.some.inj ho3).symm _ _ _ hw (lv_sub hl [0, 1, 2] rfl)
      · have ho3 := oi_t ho3 c8
        refine lv_iconst (v := iI (-1)) hx hb dX0_best_40 rfl ?_
        exact ep_retiW hx hb hr hlocks hw (hT3 _ (Option.some.inj ho3).symm) dX0_best_41
theorem hdX0_near : yX0_near.cls = RX0 ∧ yX0_near.cls ≠ "java/lang/invoke/MethodHandle" ∧ yX0_near.cls ≠ "java/lang/invoke/VarHandle" ∧ (parseMethodDescriptor yX0_near.desc).map (fun d => d.parameters.length) = some 1 := by decide +kernel
theorem ckX0_near {h : Hp} {a0 : Nat} {x1 : Int32} {res : Int32} (hf : fX0_near h a0 x1 = some res) : ep_cls h a0 = some 0 := by
  unfold fX0_near at hf
  exact (oi_c hf).1
abbrev wX0_near (p : Program) (l : Launch) (e : Env) (s : State) (m : MethodId) (below : List Frame) (meth : Method) (c : Code) (G : EG) (h : Hp) (a0 : Nat) (x1 : Int32) (res : Int32) (k9 n9 : Nat) (H : Heap) (locs : List Loc) (g : JFrame) : Prop := W p l e (headSpec (ws_ yX0_near cX0_near 7 (some .int)) ({ frames := 5, cells := 0, slots := 0, locals := 141 } : Room)).room s m ([.ref a0, .int x1] : List Value).toArray below meth c H locs k9 n9 (MQ below (ep_Qi G ep_cl h res) ([.ref a0, .int x1] : List Value).toArray s 0 0 (ep_A G)) g
set_option maxHeartbeats 4000000 in
theorem metX0_near (l : Launch) (G : EG) (h : Hp) (a0 : Nat) (x1 : Int32) {res : Int32} (hf : fX0_near h a0 x1 = some res) : Met l yX0_near (ws_ yX0_near cX0_near 7 (some .int)) ({ frames := 5, cells := 0, slots := 0, locals := 141 } : Room) (ep_Pc G ep_cl h [.ref a0, .int x1]) (ep_Qi G ep_cl h res) 0 0 (ep_A G) := by
  refine Met.ofW (cc := cX0_near) (maxL := 7) (ret := (some .int)) (by decide) rfl ?_
  intro p e s m args below meth c s₁ B hml hv
  obtain ⟨rfl, hR, hK, hZ⟩ := hv
  have hx := B.exec
  have hb := B.bytes
  have hr := B.returns
  have hlocks := B.notSynchronized
  have hts := atoms_spec (ws := (ws_ yX0_near cX0_near 7 (some .int))) B.pre
  have hts : ∀ w ∈ lw_all, w.before _ s = true := fun w h => hts w (List.mem_cons_of_mem _ h)
  have hown : s.vm.findClass RX0 = some m.cls := findClass_of_methodNamed B.named
  have hw : ep_W G ep_cl h s s.heap [] := ⟨hR, va_S.rf⟩
  have hl := lv_entry ([.ref a0, .int x1]) (n := 7) (Nat.le_of_ble_eq_true rfl)
  rw [lg_entry_eq]
  generalize (lg_sl ([.ref a0, .int x1]) ++ List.replicate (7 - (lg_sl ([.ref a0, .int x1])).length) Slot.unset).toArray = ls at hl ⊢
  have hl : lv_has ls 7 [(0, .ref a0), (1, .int x1)] := hl
  unfold fX0_near at hf
  have hf := (oi_c hf).2
  show wX0_near p l e s m below meth c G h a0 x1 res 0 0 s.heap ([]) (F0 m 0 ls [])
  refine lv_iload_n hx hb dX0_near_0 rfl (lv_at hl 1 rfl) ?_
  refine lv_i2l (v := x1.toInt64) hx hb dX0_near_1 rfl ?_
  refine lv_lconst (v := lI 0) hx hb dX0_near_2 (by decide) ?_
  refine lv_lconst (v := lI 1) hx hb dX0_near_3 (by decide) ?_
  obtain ⟨v1, ev1, hf⟩ := ob_s hf
  refine ep_calli0 (va_runS (As := [.long x1.toInt64, .long (lI 0), .long (lI 1)]) (rest := []) ⟨hx, hb, hml, hown, hts⟩ (metX0_isIn l G h x1.toInt64 (lI 0) (lI 1) ev1) (va_cwS 3 hts (lw_S q114 q115 q85 q116) rfl rfl rfl hsX0_isIn ⟨Nat.le_of_ble_eq_true rfl, Nat.le_of_ble_eq_true rfl⟩) (ep_preS hK hZ hw) rfl rfl hl.1 rfl (lv_room (Nat.le_of_ble_eq_true rfl)) dX0_near_4 ⟨Nat.le_of_ble_eq_true rfl, Nat.le_of_ble_eq_true rfl⟩) hw (fun H locs hw => ?_)
  refine lv_if_ne (tgt := 12) hx hb dX0_near_7 (by decide) (fun c2 => ?_) (fun c2 => ?_)
  · have hf := oi_f hf c2
    refine lv_ldcw (v := (1000000 : Int32)) hx hb hown (hts _ q805) dX0_near_12 ?_
    refine lv_istore_n (lv' := [(2, .int (1000000 : Int32)), (0, .ref a0), (1, .int x1)]) hx hb dX0_near_15 rfl hl (by decide) rfl (fun ls hl => ?_)
    refine lv_bipush (v := iI (-4)) hx hb dX0_near_16 (by decide) ?_
    refine lv_istore_n (lv' := [(3, .int (iI (-4))), (2, .int (1000000 : Int32)), (0, .ref a0), (1, .int x1)]) hx hb dX0_near_18 rfl hl (by decide) rfl (fun ls hl => ?_)
    refine lv_iconst (v := iI 0) hx hb dX0_near_19 rfl ?_
    refine lv_istore (lv' := [(4, .int (iI 0)), (3, .int (iI (-4))), (2, .int (1000000 : Int32)), (0, .ref a0), (1, .int x1)]) hx hb dX0_near_20 hl (by decide) rfl (fun ls hl => ?_)
    obtain ⟨o3, ho3, hf⟩ := ob_s hf
    have hJ3 : ∀ (H : Heap) (locs : List Loc) (ls : Array Slot), ep_W G ep_cl h s H locs → lv_has ls 7 [(1, .int x1), (2, .int o3.1), (3, .int o3.2)] → wX0_near p l e s m below meth c G h a0 x1 res 0 0 H locs (F0 m 152 ls []) := by
      intro H locs ls hw hl
      refine lv_iload_n hx hb dX0_near_152 rfl (lv_at hl 2 rfl) ?_
      refine lv_bipush (v := iI (-4)) hx hb dX0_near_153 (by decide) ?_
      refine lv_icmp_eq (tgt := 162) hx hb dX0_near_155 (by decide) (fun c30 => ?_) (fun c30 => ?_)
      · have hf := oi_t hf c30
        refine lv_iload_n hx hb dX0_near_162 rfl (lv_at hl 2 rfl) ?_
        refine lv_goto (tgt := 167) hx hb dX0_near_163 (by decide) ?_
        exact ep_retiR hx hb hr hlocks hw hf dX0_near_167
      · have hf := oi_f hf c30
        refine lv_iload_n hx hb dX0_near_158 rfl (lv_at hl 0 rfl) ?_
        refine lv_if_ne (tgt := 166) hx hb dX0_near_159 (by decide) (fun c31 => ?_) (fun c31 => ?_)
        · have hf := oi_f hf c31
          refine lv_iload_n hx hb dX0_near_166 rfl (lv_at hl 1 rfl) ?_
          exact ep_retiR hx hb hr hlocks hw hf dX0_near_167
        · have hf := oi_t hf c31
          refine lv_iload_n hx hb dX0_near_162 rfl (lv_at hl 2 rfl) ?_
          refine lv_goto (tgt := 167) hx hb dX0_near_163 (by decide) ?_
          exact ep_retiR hx hb hr hlocks hw hf dX0_near_167
    have hL3 : ∀ (fu : Nat) (x2 : Int32) (x3 : Int32) (x4 : Int32), fX0_near_L22 h a0 x1 fu x2 x3 x4 = some o3 → ∀ (H : Heap) (locs : List Loc) (ls : Array Slot), ep_W G ep_cl h s H locs → lv_has ls 7 [(0, .ref a0), (1, .int x1), (2, .int x2), (3, .int x3), (4, .int x4)] → wX0_near p l e s m below meth c G h a0 x1 res 0 0 H locs (F0 m 22 ls []) := by
      intro fu
      induction fu with
      | zero => intro x2 x3 x4 ho3; cases ho3
      | succ fu ih3 =>
        intro x2 x3 x4 ho3 H locs ls hw hl
        rw [fX0_near_L22] at ho3
        refine lv_iload hx hb dX0_near_22 (lv_at hl 4 rfl) ?_
        refine lv_aload_n hx hb dX0_near_24 rfl (lv_at hl 0 rfl) ?_
        obtain ⟨v4, ev4, ho3⟩ := ob_s ho3
        refine ep_get (C := RX0) (T := TX0) (N := 25) (ci := 0) hx hb hts in_X0 hown hK hw rfl 6 (by decide) q933 (gI_f ev4) dX0_near_25 ?_
        refine lv_icmp_ge (tgt := 152) hx hb dX0_near_28 (by decide) (fun c5 => ?_) (fun c5 => ?_)
        · have ho3 := oi_t ho3 c5
          obtain rfl := Option.some.inj ho3
          exact hJ3 _ _ _ hw (lv_sub hl [1, 2, 3] rfl)
        · have ho3 := oi_f ho3 c5
          refine lv_iconst (v := iI 0) hx hb dX0_near_31 rfl ?_
          refine lv_istore (lv' := [(5, .int (iI 0)), (0, .ref a0), (1, .int x1), (2, .int x2), (3, .int x3), (4, .int x4)]) hx hb dX0_near_32 hl (by decide) rfl (fun ls hl => ?_)
          obtain ⟨o6, ho6, ho3⟩ := ob_s ho3
          have hJ6 : ∀ (H : Heap) (locs : List Loc) (ls : Array Slot), ep_W G ep_cl h s H locs → lv_has ls 7 [(0, .ref a0), (1, .int x1), (2, .int o6.1), (3, .int o6.2), (4, .int x4)] → wX0_near p l e s m below meth c G h a0 x1 res 0 0 H locs (F0 m 146 ls []) := by
            intro H locs ls hw hl
            refine lv_iinc (v := (x4 + iI 1)) (lv' := [(4, .int (x4 + iI 1)), (0, .ref a0), (1, .int x1), (2, .int o6.1), (3, .int o6.2)]) hx hb dX0_near_146 hl (k := 4) rfl rfl (by decide) rfl (fun ls hl => ?_)
            refine lv_goto (tgt := 22) hx hb dX0_near_149 (by decide) ?_
            exact ih3 _ _ _ ho3 _ _ _ hw (lv_sub hl [1, 2, 3, 4, 0] rfl)
          have hL6 : ∀ (fu : Nat) (x2 : Int32) (x3 : Int32) (x5 : Int32), fX0_near_L34 h a0 x1 x4 fu x2 x3 x5 = some o6 → ∀ (H : Heap) (locs : List Loc) (ls : Array Slot), ep_W G ep_cl h s H locs → lv_has ls 7 [(0, .ref a0), (1, .int x1), (2, .int x2), (3, .int x3), (4, .int x4), (5, .int x5)] → wX0_near p l e s m below meth c G h a0 x1 res 0 0 H locs (F0 m 34 ls []) := by
            intro fu
            induction fu with
            | zero => intro x2 x3 x5 ho6; cases ho6
            | succ fu ih6 =>
              intro x2 x3 x5 ho6 H locs ls hw hl
              rw [fX0_near_L34] at ho6
              refine lv_iload hx hb dX0_near_34 (lv_at hl 5 rfl) ?_
              refine lv_aload_n hx hb dX0_near_36 rfl (lv_at hl 0 rfl) ?_
              obtain ⟨r7, er7, ho6⟩ := ob_s ho6
              refine ep_get (C := RX0) (T := TX0) (N := 25) (ci := 0) hx hb hts in_X0 hown hK hw rfl 3 (by decide) q930 (gR_f er7) dX0_near_37 ?_
              obtain ⟨v8, ev8, ho6⟩ := ob_s ho6
              refine ep_getN (C := RX1) (T := TX1) (N := 11) (ci := 1) hx hb hts in_X1 hown hK hw rfl 7 (by decide) q167 (gI_f ev8) dX0_near_40 ?_
              refine lv_icmp_ge (tgt := 146) hx hb dX0_near_43 (by decide) (fun c9 => ?_) (fun c9 => ?_)
              · have ho6 := oi_t ho6 c9
                obtain rfl := Option.some.inj ho6
                exact hJ6 _ _ _ hw (lv_sub hl [0, 1, 2, 3, 4] rfl)
              · have ho6 := oi_f ho6 c9
                refine lv_aload_n hx hb dX0_near_46 rfl (lv_at hl 0 rfl) ?_
                obtain ⟨r10, er10, ho6⟩ := ob_s ho6
                refine ep_get (C := RX0) (T := TX0) (N := 25) (ci := 0) hx hb hts in_X0 hown hK hw rfl 3 (by decide) q930 (gR_f er10) dX0_near_47 ?_
                obtain ⟨v11, ev11, ho6⟩ := ob_s ho6
                refine ep_getN (C := RX1) (T := TX1) (N := 11) (ci := 1) hx hb hts in_X1 hown hK hw rfl 8 (by decide) q170 (gI_f ev11) dX0_near_50 ?_
                refine lv_iload hx hb dX0_near_53 (lv_at hl 4 rfl) ?_
                obtain ⟨v12, ev12, ho6⟩ := ob_s ho6
                refine ep_calli0 (va_runS (As := [.int v11, .int x4]) (rest := []) ⟨hx, hb, hml, hown, hts⟩ (metX0_has l G h v11 x4 ev12) (va_cwS 2 hts (lw_S q731 q427 q85 q428) rfl rfl rfl hsX0_has ⟨Nat.le_of_ble_eq_true rfl, Nat.le_of_ble_eq_true rfl⟩) (ep_preS hK hZ hw) rfl rfl hl.1 rfl (lv_room (Nat.le_of_ble_eq_true rfl)) dX0_near_55 ⟨Nat.le_of_ble_eq_true rfl, Nat.le_of_ble_eq_true rfl⟩) hw (fun H locs hw => ?_)
                obtain ⟨o13, ho13, ho6⟩ := ob_s ho6
                have hJ13 : ∀ (H : Heap) (locs : List Loc) (ls : Array Slot), ep_W G ep_cl h s H locs → lv_has ls 7 [(0, .ref a0), (1, .int x1), (2, .int o13.1), (3, .int o13.2), (4, .int x4), (5, .int x5)] → wX0_near p l e s m below meth c G h a0 x1 res 0 0 H locs (F0 m 140 ls []) := by
                  intro H locs ls hw hl
                  refine lv_iinc (v := (x5 + iI 1)) (lv' := [(5, .int (x5 + iI 1)), (0, .ref a0), (1, .int x1), (2, .int o13.1), (3, .int o13.2), (4, .int x4)]) hx hb dX0_near_140 hl (k := 5) rfl rfl (by decide) rfl (fun ls hl => ?_)
                  refine lv_goto (tgt := 34) hx hb dX0_near_143 (by decide) ?_
                  exact ih6 _ _ _ ho6 _ _ _ hw (lv_sub hl [1, 2, 3, 4, 5, 0] rfl)
                refine lv_if_ne (tgt := 140) hx hb dX0_near_58 (by decide) (fun c14 => ?_) (fun c14 => ?_)
                · have ho13 := oi_f ho13 c14
                  obtain rfl := Option.some.inj ho13
                  exact hJ13 _ _ _ hw (lv_sub hl [0, 1, 2, 3, 4, 5] rfl)
                · have ho13 := oi_t ho13 c14
                  refine lv_aload_n hx hb dX0_near_61 rfl (lv_at hl 0 rfl) ?_
                  obtain ⟨r15, er15, ho13⟩ := ob_s ho13
                  refine ep_get (C := RX0) (T := TX0) (N := 25) (ci := 0) hx hb hts in_X0 hown hK hw rfl 3 (by decide) q930 (gR_f er15) dX0_near_62 ?_
                  refine lv_iload hx hb dX0_near_65 (lv_at hl 5 rfl) ?_
                  obtain ⟨v16, ev16, ho13⟩ := ob_s ho13
                  refine ep_calli0 (va_runV (As := [.int x5]) (rest := []) ⟨hx, hb, hml, hown, hts⟩ (metX1_isSold l G h r15 x5 ev16) (cwV 1 hts (lw_V q655 q554 q555 q86 q556) rfl rfl rfl hdX1_isSold ⟨Nat.le_of_ble_eq_true rfl, Nat.le_of_ble_eq_true rfl⟩) (ep_preV hK hZ hw rfl (ckX1_isSold ev16)) rfl rfl hl.1 rfl (lv_room (Nat.le_of_ble_eq_true rfl)) dX0_near_67 ⟨Nat.le_of_ble_eq_true rfl, Nat.le_of_ble_eq_true rfl⟩) hw (fun H locs hw => ?_)
                  refine lv_if_ne (tgt := 140) hx hb dX0_near_70 (by decide) (fun c17 => ?_) (fun c17 => ?_)
                  · have ho13 := oi_f ho13 c17
                    obtain rfl := Option.some.inj ho13
                    exact hJ13 _ _ _ hw (lv_sub hl [0, 1, 2, 3, 4, 5] rfl)
                  · have ho13 := oi_t ho13 c17
                    refine lv_aload_n hx hb dX0_near_73 rfl (lv_at hl 0 rfl) ?_
                    refine lv_aload_n hx hb dX0_near_74 rfl (lv_at hl 0 rfl) ?_
                    obtain ⟨r18, er18, ho13⟩ := ob_s ho13
                    refine ep_get (C := RX0) (T := TX0) (N := 25) (ci := 0) hx hb hts in_X0 hown hK hw rfl 3 (by decide) q930 (gR_f er18) dX0_near_75 ?_
                    refine lv_iload hx hb dX0_near_78 (lv_at hl 5 rfl) ?_
                    refine lv_iload hx hb dX0_near_80 (lv_at hl 4 rfl) ?_
                    obtain ⟨v19, ev19, ho13⟩ := ob_s ho13
                    refine ep_calli0 (va_runV (As := [.ref r18, .int x5, .int x4]) (rest := []) ⟨hx, hb, hml, hown, hts⟩ (metX0_endsSo l G h a0 r18 x5 x4 ev19) (cwV 3 hts (lw_V q732 q734 qs23 q85 q735) rfl rfl rfl hdX0_endsSo ⟨Nat.le_of_ble_eq_true rfl, Nat.le_of_ble_eq_true rfl⟩) (ep_preV hK hZ hw rfl (ckX0_endsSo ev19)) rfl rfl hl.1 rfl (lv_room (Nat.le_of_ble_eq_true rfl)) dX0_near_82 ⟨Nat.le_of_ble_eq_true rfl, Nat.le_of_ble_eq_true rfl⟩) hw (fun H locs hw => ?_)
                    refine lv_if_eq (tgt := 140) hx hb dX0_near_85 (by decide) (fun c20 => ?_) (fun c20 => ?_)
                    · have ho13 := oi_t ho13 c20
                      obtain rfl := Option.some.inj ho13
                      exact hJ13 _ _ _ hw (lv_sub hl [0, 1, 2, 3, 4, 5] rfl)
                    · have ho13 := oi_f ho13 c20
                      refine lv_iconst (v := iI 0) hx hb dX0_near_88 rfl ?_
                      refine lv_aload_n hx hb dX0_near_89 rfl (lv_at hl 0 rfl) ?_
                      obtain ⟨r21, er21, ho13⟩ := ob_s ho13
                      refine ep_get (C := RX0) (T := TX0) (N := 25) (ci := 0) hx hb hts in_X0 hown hK hw rfl 5 (by decide) q932 (gR_f er21) dX0_near_90 ?_
                      refine lv_iload hx hb dX0_near_93 (lv_at hl 4 rfl) ?_
                      obtain ⟨v22, ev22, ho13⟩ := ob_s ho13
                      refine ep_aald 6 (by decide) rfl hx hb hK hw ev22 dX0_near_95 ?_
                      obtain ⟨v23, ev23, ho13⟩ := ob_s ho13
                      refine ep_getN (C := RX7) (T := TX7) (N := 4) (ci := 7) hx hb hts in_X7 hown hK hw rfl 2 (by decide) q513 (gI_f ev23) dX0_near_96 ?_
                      refine lv_aload_n hx hb dX0_near_99 rfl (lv_at hl 0 rfl) ?_
                      obtain ⟨r24, er24, ho13⟩ := ob_s ho13
                      refine ep_get (C := RX0) (T := TX0) (N := 25) (ci := 0) hx hb hts in_X0 hown hK hw rfl 3 (by decide) q930 (gR_f er24) dX0_near_100 ?_
                      refine lv_iload hx hb dX0_near_103 (lv_at hl 5 rfl) ?_
                      obtain ⟨v25, ev25, ho13⟩ := ob_s ho13
                      refine ep_calli0 (va_runV (As := [.int x5]) (rest := [.int v23, .int (iI 0)]) ⟨hx, hb, hml, hown, hts⟩ (metX1_returns l G h r24 x5 ev25) (cwV 1 hts (lw_V q579 q580 q581 q86 q582) rfl rfl rfl hdX1_returns ⟨Nat.le_of_ble_eq_true rfl, Nat.le_of_ble_eq_true rfl⟩) (ep_preV hK hZ hw rfl (ckX1_returns ev25)) rfl rfl hl.1 rfl (lv_room (Nat.le_of_ble_eq_true rfl)) dX0_near_105 ⟨Nat.le_of_ble_eq_true rfl, Nat.le_of_ble_eq_true rfl⟩) hw (fun H locs hw => ?_)
                      refine lv_isub hx hb dX0_near_108 ?_
                      refine va_mmax hx hb (hml.trans hl.1.symm) hown (hts _ q759) (hts _ q430) (hts _ q100) (hts _ q431) (Nat.le_of_ble_eq_true rfl) (Nat.le_of_ble_eq_true rfl) (Nat.le_of_ble_eq_true rfl) (Nat.le_of_ble_eq_true rfl) dX0_near_109 ?_
                      refine lv_istore (lv' := [(6, .int (if (iI 0) < (v23 - v25) then (v23 - v25) else (iI 0))), (0, .ref a0), (1, .int x1), (2, .int x2), (3, .int x3), (4, .int x4), (5, .int x5)]) hx hb dX0_near_112 hl (by decide) rfl (fun ls hl => ?_)
                      refine lv_iload hx hb dX0_near_114 (lv_at hl 0 rfl) ?_
                      refine lv_iload_n hx hb dX0_near_116 rfl (lv_at hl 3 rfl) ?_
                      have hJ26 : wX0_near p l e s m below meth c G h a0 x1 res 0 0 H locs (F0 m 132 ls [.int (if x2 ≤ (if (iI 0) < (v23 - v25) then (v23 - v25) else (iI 0)) then x3 else (((iI 10) * x4) + x5))]) := by
                        refine lv_topi (fun x_28 ex_28 => ?_)
                        have ho13 := nmI_s ho13 x_28 ex_28
                        refine lv_istore_n (lv' := [(3, .int x_28), (6, .int (if (iI 0) < (v23 - v25) then (v23 - v25) else (iI 0))), (0, .ref a0), (1, .int x1), (2, .int x2), (4, .int x4), (5, .int x5)]) hx hb dX0_near_132 rfl hl (by decide) rfl (fun ls hl => ?_)
                        refine lv_iload_n hx hb dX0_near_133 rfl (lv_at hl 4 rfl) ?_
                        refine lv_iload hx hb dX0_near_134 (lv_at hl 1 rfl) ?_
                        refine va_mmin hx hb (hml.trans hl.1.symm) hown (hts _ q806) (hts _ q458) (hts _ q100) (hts _ q459) (Nat.le_of_ble_eq_true rfl) (Nat.le_of_ble_eq_true rfl) (Nat.le_of_ble_eq_true rfl) (Nat.le_of_ble_eq_true rfl) dX0_near_136 ?_
                        refine lv_topi (fun x_29 ex_29 => ?_)
                        have ho13 := nmI_s ho13 x_29 ex_29
                        refine lv_istore_n (lv' := [(2, .int x_29), (3, .int x_28), (6, .int (if (iI 0) < (v23 - v25) then (v23 - v25) else (iI 0))), (0, .ref a0), (1, .int x1), (4, .int x4), (5, .int x5)]) hx hb dX0_near_139 rfl hl (by decide) rfl (fun ls hl => ?_)
                        obtain rfl := Option.some.inj ho13
                        exact hJ13 _ _ _ hw (lv_sub hl [3, 4, 0, 1, 5, 6] rfl)
                      refine lv_icmp_ge (tgt := 131) hx hb dX0_near_117 (by decide) (fun c27 => ?_) (fun c27 => ?_)
                      · refine lv_iload_n hx hb dX0_near_131 rfl (lv_at hl 4 rfl) ?_
                        rw [if_pos c27] at hJ26
                        exact hJ26
                      · refine lv_bipush (v := iI 10) hx hb dX0_near_120 (by decide) ?_
                        refine lv_iload hx hb dX0_near_122 (lv_at hl 5 rfl) ?_
                        refine lv_imul hx hb dX0_near_124 ?_
                        refine lv_iload hx hb dX0_near_125 (lv_at hl 6 rfl) ?_
                        refine lv_iadd hx hb dX0_near_127 ?_
                        refine lv_goto (tgt := 132) hx hb dX0_near_128 (by decide) ?_
                        rw [if_neg c27] at hJ26
                        exact hJ26
          exact hL6 FUEL _ _ _ ho6 _ _ _ hw (lv_sub hl [1, 2, 3, 4, 5, 0] rfl)
    exact hL3 FUEL _ _ _ ho3 _ _ _ hw (lv_sub hl [3, 4, 2, 1, 0] rfl)
  · have hf := oi_t hf c2
    refine lv_iconst (v := iI (-1)) hx hb dX0_near_10 rfl ?_
    exact ep_retiR hx hb hr hlocks hw hf dX0_near_11
theorem hdX0_areFoxes : yX0_areFoxes.cls = RX0 ∧ yX0_areFoxes.cls ≠ "java/lang/invoke/MethodHandle" ∧ yX0_areFoxes.cls ≠ "java/lang/invoke/VarHandle" ∧ (parseMethodDescriptor yX0_areFoxes.desc).map (fun d => d.parameters.length) = some 4 := by decide +kernel
theorem ckX0_areFoxes {h : Hp} {a0 : Nat} {x1 : Int32} {x2 : Int32} {x3 : Int32} {x4 : Int32} {res : Int32} (hf : fX0_areFoxes h a0 x1 x2 x3 x4 = some res) : ep_cls h a0 = some 0 := by
  unfold fX0_areFoxes at hf
  exact (oi_c hf).1
abbrev wX0_areFoxes (p : Program) (l : Launch) (e : Env) (s : State) (m : MethodId) (below : List Frame) (meth : Method) (c : Code) (G : EG) (h : Hp) (a0 : Nat) (x1 : Int32) (x2 : Int32) (x3 : Int32) (x4 : Int32) (res : Int32) (k9 n9 : Nat) (H : Heap) (locs : List Loc) (g : JFrame) : Prop := W p l e (headSpec (ws_ yX0_areFoxes cX0_areFoxes 5 (some .boolean)) ({ frames := 2, cells := 0, slots := 0, locals := 46 } : Room)).room s m ([.ref a0, .int x1, .int x2, .int x3, .int x4] : List Value).toArray below meth c H locs k9 n9 (MQ below (ep_Qi G ep_cl h res) ([.ref a0, .int x1, .int x2, .int x3, .int x4] : List Value).toArray s 0 0 (ep_A G)) g
set_option maxHeartbeats 4000000 in
theorem metX0_areFoxes (l : Launch) (G : EG) (h : Hp) (a0 : Nat) (x1 : Int32) (x2 : Int32) (x3 : Int32) (x4 : Int32) {res : Int32} (hf : fX0_areFoxes h a0 x1 x2 x3 x4 = some res) : Met l yX0_areFoxes (ws_ yX0_areFoxes cX0_areFoxes 5 (some .boolean)) ({ frames := 2, cells := 0, slots := 0, locals := 46 } : Room) (ep_Pc G ep_cl h [.ref a0, .int x1, .int x2, .int x3, .int x4]) (ep_Qi G ep_cl h res) 0 0 (ep_A G) := by
  refine Met.ofW (cc := cX0_areFoxes) (maxL := 5) (ret := (some .boolean)) (by decide) rfl ?_
  intro p e s m args below meth c s₁ B hml hv
  obtain ⟨rfl, hR, hK, hZ⟩ := hv
  have hx := B.exec
  have hb := B.bytes
  have hr := B.returns
  have hlocks := B.notSynchronized
  have hts := atoms_spec (ws := (ws_ yX0_areFoxes cX0_areFoxes 5 (some .boolean))) B.pre
  have hts : ∀ w ∈ lw_all, w.before _ s = true := fun w h => hts w (List.mem_cons_of_mem _ h)
  have hown : s.vm.findClass RX0 = some m.cls := findClass_of_methodNamed B.named
  have hw : ep_W G ep_cl h s s.heap [] := ⟨hR, va_S.rf⟩
  have hl := lv_entry ([.ref a0, .int x1, .int x2, .int x3, .int x4]) (n := 5) (Nat.le_of_ble_eq_true rfl)
  rw [lg_entry_eq]
  generalize (lg_sl ([.ref a0, .int x1, .int x2, .int x3, .int x4]) ++ List.replicate (5 - (lg_sl ([.ref a0, .int x1, .int x2, .int x3, .int x4])).length) Slot.unset).toArray = ls at hl ⊢
  have hl : lv_has ls 5 [(0, .ref a0), (1, .int x1), (2, .int x2), (3, .int x3), (4, .int x4)] := hl
  unfold fX0_areFoxes at hf
  have hf := (oi_c hf).2
  show wX0_areFoxes p l e s m below meth c G h a0 x1 x2 x3 x4 res 0 0 s.heap ([]) (F0 m 0 ls [])
  refine lv_iload_n hx hb dX0_areFoxes_0 rfl (lv_at hl 1 rfl) ?_
  refine lv_i2l (v := x1.toInt64) hx hb dX0_areFoxes_1 rfl ?_
  refine lv_lconst (v := lI 0) hx hb dX0_areFoxes_2 (by decide) ?_
  refine lv_ldc2 (v := (10 : Int64)) hx hb hown (hts _ q621) dX0_areFoxes_3 ?_
  obtain ⟨v1, ev1, hf⟩ := ob_s hf
  refine ep_calli0 (va_runS (As := [.long x1.toInt64, .long (lI 0), .long (10 : Int64)]) (rest := []) ⟨hx, hb, hml, hown, hts⟩ (metX0_isIn l G h x1.toInt64 (lI 0) (10 : Int64) ev1) (va_cwS 3 hts (lw_S q114 q115 q85 q116) rfl rfl rfl hsX0_isIn ⟨Nat.le_of_ble_eq_true rfl, Nat.le_of_ble_eq_true rfl⟩) (ep_preS hK hZ hw) rfl rfl hl.1 rfl (lv_room (Nat.le_of_ble_eq_true rfl)) dX0_areFoxes_6 ⟨Nat.le_of_ble_eq_true rfl, Nat.le_of_ble_eq_true rfl⟩) hw (fun H locs hw => ?_)
  refine lv_if_eq (tgt := 47) hx hb dX0_areFoxes_9 (by decide) (fun c2 => ?_) (fun c2 => ?_)
  · have hf := oi_t hf c2
    refine lv_iconst (v := iI 0) hx hb dX0_areFoxes_47 rfl ?_
    exact ep_retzR hx hb hr rfl hlocks hw hf dX0_areFoxes_48
  · have hf := oi_f hf c2
    refine lv_aload_n hx hb dX0_areFoxes_12 rfl (lv_at hl 0 rfl) ?_
    refine lv_iload_n hx hb dX0_areFoxes_13 rfl (lv_at hl 2 rfl) ?_
    obtain ⟨v3, ev3, hf⟩ := ob_s hf
    refine ep_calli0 (va_runV (As := [.int x2]) (rest := []) ⟨hx, hb, hml, hown, hts⟩ (metX0_isEcho l G h a0 x2 ev3) (cwV 1 hts (lw_V q575 q577 qs15 q85 q578) rfl rfl rfl hdX0_isEcho ⟨Nat.le_of_ble_eq_true rfl, Nat.le_of_ble_eq_true rfl⟩) (ep_preV hK hZ hw rfl (ckX0_isEcho ev3)) rfl rfl hl.1 rfl (lv_room (Nat.le_of_ble_eq_true rfl)) dX0_areFoxes_14 ⟨Nat.le_of_ble_eq_true rfl, Nat.le_of_ble_eq_true rfl⟩) hw (fun H locs hw => ?_)
    refine lv_if_eq (tgt := 47) hx hb dX0_areFoxes_17 (by decide) (fun c4 => ?_) (fun c4 => ?_)
    · have hf := oi_t hf c4
      refine lv_iconst (v := iI 0) hx hb dX0_areFoxes_47 rfl ?_
      exact ep_retzR hx hb hr rfl hlocks hw hf dX0_areFoxes_48
    · have hf := oi_f hf c4
      refine lv_iload_n hx hb dX0_areFoxes_20 rfl (lv_at hl 3 rfl) ?_
      refine lv_i2l (v := x3.toInt64) hx hb dX0_areFoxes_21 rfl ?_
      refine lv_lconst (v := lI 0) hx hb dX0_areFoxes_22 (by decide) ?_
      refine lv_ldc2 (v := (6 : Int64)) hx hb hown (hts _ q815) dX0_areFoxes_23 ?_
      obtain ⟨v5, ev5, hf⟩ := ob_s hf
      refine ep_calli0 (va_runS (As := [.long x3.toInt64, .long (lI 0), .long (6 : Int64)]) (rest := []) ⟨hx, hb, hml, hown, hts⟩ (metX0_isIn l G h x3.toInt64 (lI 0) (6 : Int64) ev5) (va_cwS 3 hts (lw_S q114 q115 q85 q116) rfl rfl rfl hsX0_isIn ⟨Nat.le_of_ble_eq_true rfl, Nat.le_of_ble_eq_true rfl⟩) (ep_preS hK hZ hw) rfl rfl hl.1 rfl (lv_room (Nat.le_of_ble_eq_true rfl)) dX0_areFoxes_26 ⟨Nat.le_of_ble_eq_true rfl, Nat.le_of_ble_eq_true rfl⟩) hw (fun H locs hw => ?_)
      refine lv_if_eq (tgt := 47) hx hb dX0_areFoxes_29 (by decide) (fun c6 => ?_) (fun c6 => ?_)
      · have hf := oi_t hf c6
        refine lv_iconst (v := iI 0) hx hb dX0_areFoxes_47 rfl ?_
        exact ep_retzR hx hb hr rfl hlocks hw hf dX0_areFoxes_48
      · have hf := oi_f hf c6
        refine lv_iload hx hb dX0_areFoxes_32 (lv_at hl 4 rfl) ?_
        refine lv_i2l (v := x4.toInt64) hx hb dX0_areFoxes_34 rfl ?_
        refine lv_lconst (v := lI 0) hx hb dX0_areFoxes_35 (by decide) ?_
        refine lv_lconst (v := lI 1) hx hb dX0_areFoxes_36 (by decide) ?_
        obtain ⟨v7, ev7, hf⟩ := ob_s hf
        refine ep_calli0 (va_runS (As := [.long x4.toInt64, .long (lI 0), .long (lI 1)]) (rest := []) ⟨hx, hb, hml, hown, hts⟩ (metX0_isIn l G h x4.toInt64 (lI 0) (lI 1) ev7) (va_cwS 3 hts (lw_S q114 q115 q85 q116) rfl rfl rfl hsX0_isIn ⟨Nat.le_of_ble_eq_true rfl, Nat.le_of_ble_eq_true rfl⟩) (ep_preS hK hZ hw) rfl rfl hl.1 rfl (lv_room (Nat.le_of_ble_eq_true rfl)) dX0_areFoxes_37 ⟨Nat.le_of_ble_eq_true rfl, Nat.le_of_ble_eq_true rfl⟩) hw (fun H locs hw => ?_)
        refine lv_if_eq (tgt := 47) hx hb dX0_areFoxes_40 (by decide) (fun c8 => ?_) (fun c8 => ?_)
        · have hf := oi_t hf c8
          refine lv_iconst (v := iI 0) hx hb dX0_areFoxes_47 rfl ?_
          exact ep_retzR hx hb hr rfl hlocks hw hf dX0_areFoxes_48
        · have hf := oi_f hf c8
          refine lv_iconst (v := iI 1) hx hb dX0_areFoxes_43 rfl ?_
          refine lv_goto (tgt := 48) hx hb dX0_areFoxes_44 (by decide) ?_
          exact ep_retzR hx hb hr rfl hlocks hw hf dX0_areFoxes_48
theorem hsX0_divisor : yX0_divisor.cls ≠ "java/lang/invoke/MethodHandle" ∧ yX0_divisor.cls ≠ "java/lang/invoke/VarHandle" ∧ (parseMethodDescriptor yX0_divisor.desc).map (fun d => d.parameters.length) = some 2 := by decide +kernel
abbrev wX0_divisor (p : Program) (l : Launch) (e : Env) (s : State) (m : MethodId) (below : List Frame) (meth : Method) (c : Code) (G : EG) (d : Nat) (h : Hp) (x0 : Int64) (x2 : Int64) (res : Int64) (k9 n9 : Nat) (H : Heap) (locs : List Loc) (g : JFrame) : Prop := W p l e (headSpec (ws_ yX0_divisor cX0_divisor 4 (some .long)) ({ frames := 0 + (d + 1), cells := 0, slots := 0, locals := 0 + (d + 1) * 23 } : Room)).room s m ([.long x0, .long x2] : List Value).toArray below meth c H locs k9 n9 (MQ below (ep_Ql G ep_cl h res) ([.long x0, .long x2] : List Value).toArray s 0 0 (ep_A G)) g
set_option maxHeartbeats 4000000 in
theorem metX0_divisor (l : Launch) (G : EG) : ∀ (d : Nat) (h : Hp) (x0 : Int64) (x2 : Int64) {res : Int64} (hf : fX0_divisor d x0 x2 = some res), Met l yX0_divisor (ws_ yX0_divisor cX0_divisor 4 (some .long)) ({ frames := 0 + d, cells := 0, slots := 0, locals := 0 + d * 23 } : Room) (ep_Pc G ep_cl h [.long x0, .long x2]) (ep_Ql G ep_cl h res) 0 0 (ep_A G) := by
  intro d
  induction d with
  | zero => intro h x0 x2 res hf; cases hf
  | succ d ihM =>
  intro h x0 x2 res hf
  refine Met.ofW (cc := cX0_divisor) (maxL := 4) (ret := (some .long)) (by decide) rfl ?_
  intro p e s m args below meth c s₁ B hml hv
  obtain ⟨rfl, hR, hK, hZ⟩ := hv
  have hx := B.exec
  have hb := B.bytes
  have hr := B.returns
  have hlocks := B.notSynchronized
  have hts := atoms_spec (ws := (ws_ yX0_divisor cX0_divisor 4 (some .long))) B.pre
  have hts : ∀ w ∈ lw_all, w.before _ s = true := fun w h => hts w (List.mem_cons_of_mem _ h)
  have hown : s.vm.findClass RX0 = some m.cls := findClass_of_methodNamed B.named
  have hw : ep_W G ep_cl h s s.heap [] := ⟨hR, va_S.rf⟩
  have hl := lv_entry ([.long x0, .long x2]) (n := 4) (Nat.le_of_ble_eq_true rfl)
  rw [lg_entry_eq]
  generalize (lg_sl ([.long x0, .long x2]) ++ List.replicate (4 - (lg_sl ([.long x0, .long x2])).length) Slot.unset).toArray = ls at hl ⊢
  have hl : lv_has ls 4 [(0, .long x0), (2, .long x2)] := hl
  rw [fX0_divisor] at hf
  unfold fX0_divisor_B at hf
  show wX0_divisor p l e s m below meth c G d h x0 x2 res 0 0 s.heap ([]) (F0 m 0 ls [])
  refine lv_lload_n hx hb dX0_divisor_0 rfl (lv_at hl 1 rfl) ?_
  refine lv_lconst (v := lI 0) hx hb dX0_divisor_1 (by decide) ?_
  refine W.lcmp hx hb dX0_divisor_2 ?_
  refine lv_if_ne (tgt := 10) hx hb dX0_divisor_3 (by decide) (fun c1 => ?_) (fun c1 => ?_)
  · have hf := oi_f hf c1
    refine lv_lload_n hx hb dX0_divisor_10 rfl (lv_at hl 1 rfl) ?_
    refine lv_lload_n hx hb dX0_divisor_11 rfl (lv_at hl 0 rfl) ?_
    refine lv_lload_n hx hb dX0_divisor_12 rfl (lv_at hl 1 rfl) ?_
    obtain ⟨v2, ev2, hf⟩ := ob_s hf
    refine ep_lrem hx hb ev2 dX0_divisor_13 ?_
    obtain ⟨v3, ev3, hf⟩ := ob_s hf
    refine ep_calll0 (va_runS (As := [.long x2, .long v2]) (rest := []) ⟨hx, hb, hml, hown, hts⟩ (ihM h x2 v2 ev3) (va_cwS 2 hts (lw_S q823 q824 q85 q825) rfl rfl rfl hsX0_divisor ⟨by dsimp only [headSpec]; omega, by dsimp only [headSpec]; omega⟩) (ep_preS hK hZ hw) rfl rfl hl.1 rfl (lv_room (Nat.le_of_ble_eq_true rfl)) dX0_divisor_14 ⟨Nat.le_of_ble_eq_true rfl, Nat.le_of_ble_eq_true rfl⟩) hw (fun H locs hw => ?_)
    exact ep_retlR hx hb hr hlocks hw hf dX0_divisor_17
  · have hf := oi_t hf c1
    refine lv_lload_n hx hb dX0_divisor_6 rfl (lv_at hl 0 rfl) ?_
    refine lv_goto (tgt := 17) hx hb dX0_divisor_7 (by decide) ?_
    exact ep_retlR hx hb hr hlocks hw hf dX0_divisor_17
theorem hsX0_lowest : yX0_lowest.cls ≠ "java/lang/invoke/MethodHandle" ∧ yX0_lowest.cls ≠ "java/lang/invoke/VarHandle" ∧ (parseMethodDescriptor yX0_lowest.desc).map (fun d => d.parameters.length) = some 3 := by decide +kernel
abbrev wX0_lowest (p : Program) (l : Launch) (e : Env) (s : State) (m : MethodId) (below : List Frame) (meth : Method) (c : Code) (G : EG) (h : Hp) (x0 : Int64) (x2 : Int64) (x4 : Int32) (res : Int64) (k9 n9 : Nat) (H : Heap) (locs : List Loc) (g : JFrame) : Prop := W p l e (headSpec (ws_ yX0_lowest cX0_lowest 5 (some .long)) ({ frames := 61, cells := 0, slots := 0, locals := 1403 } : Room)).room s m ([.long x0, .long x2, .int x4] : List Value).toArray below meth c H locs k9 n9 (MQ below (ep_Ql G ep_cl h res) ([.long x0, .long x2, .int x4] : List Value).toArray s 0 0 (ep_A G)) g
set_option maxHeartbeats 4000000 in
theorem metX0_lowest (l : Launch) (G : EG) (h : Hp) (x0 : Int64) (x2 : Int64) (x4 : Int32) {res : Int64} (hf : fX0_lowest x0 x2 x4 = some res) : Met l yX0_lowest (ws_ yX0_lowest cX0_lowest 5 (some .long)) ({ frames := 61, cells := 0, slots := 0, locals := 1403 } : Room) (ep_Pc G ep_cl h [.long x0, .long x2, .int x4]) (ep_Ql G ep_cl h res) 0 0 (ep_A G) := by
  refine Met.ofW (cc := cX0_lowest) (maxL := 5) (ret := (some .long)) (by decide) rfl ?_
  intro p e s m args below meth c s₁ B hml hv
  obtain ⟨rfl, hR, hK, hZ⟩ := hv
  have hx := B.exec
  have hb := B.bytes
  have hr := B.returns
  have hlocks := B.notSynchronized
  have hts := atoms_spec (ws := (ws_ yX0_lowest cX0_lowest 5 (some .long))) B.pre
  have hts : ∀ w ∈ lw_all, w.before _ s = true := fun w h => hts w (List.mem_cons_of_mem _ h)
  have hown : s.vm.findClass RX0 = some m.cls := findClass_of_methodNamed B.named
  have hw : ep_W G ep_cl h s s.heap [] := ⟨hR, va_S.rf⟩
  have hl := lv_entry ([.long x0, .long x2, .int x4]) (n := 5) (Nat.le_of_ble_eq_true rfl)
  rw [lg_entry_eq]
  generalize (lg_sl ([.long x0, .long x2, .int x4]) ++ List.replicate (5 - (lg_sl ([.long x0, .long x2, .int x4])).length) Slot.unset).toArray = ls at hl ⊢
  have hl : lv_has ls 5 [(0, .long x0), (2, .long x2), (4, .int x4)] := hl
  unfold fX0_lowest at hf
  show wX0_lowest p l e s m below meth c G h x0 x2 x4 res 0 0 s.heap ([]) (F0 m 0 ls [])
  refine lv_iload hx hb dX0_lowest_0 (lv_at hl 2 rfl) ?_
  have hJ1 : wX0_lowest p l e s m below meth c G h x0 x2 x4 res 0 0 s.heap ([]) (F0 m 10 ls [.long (if x4 = 0 then x0 else x2)]) := by
    refine lv_lload_n hx hb dX0_lowest_10 rfl (lv_at hl 0 rfl) ?_
    refine lv_lload_n hx hb dX0_lowest_11 rfl (lv_at hl 1 rfl) ?_
    obtain ⟨v3, ev3, hf⟩ := ob_s hf
    refine ep_calll0 (va_runS (As := [.long x0, .long x2]) (rest := [.long (if x4 = 0 then x0 else x2)]) ⟨hx, hb, hml, hown, hts⟩ (metX0_divisor l G 60 h x0 x2 ev3) (va_cwS 2 hts (lw_S q823 q824 q85 q825) rfl rfl rfl hsX0_divisor ⟨Nat.le_of_ble_eq_true rfl, Nat.le_of_ble_eq_true rfl⟩) (ep_preS hK hZ hw) rfl rfl hl.1 rfl (lv_room (Nat.le_of_ble_eq_true rfl)) dX0_lowest_12 ⟨Nat.le_of_ble_eq_true rfl, Nat.le_of_ble_eq_true rfl⟩) hw (fun H locs hw => ?_)
    obtain ⟨v4, ev4, hf⟩ := ob_s hf
    refine ep_ldiv hx hb ev4 dX0_lowest_15 ?_
    exact ep_retlR hx hb hr hlocks hw hf dX0_lowest_16
  refine lv_if_ne (tgt := 9) hx hb dX0_lowest_2 (by decide) (fun c2 => ?_) (fun c2 => ?_)
  · refine lv_lload_n hx hb dX0_lowest_9 rfl (lv_at hl 1 rfl) ?_
    rw [if_neg c2] at hJ1
    exact hJ1
  · refine lv_lload_n hx hb dX0_lowest_5 rfl (lv_at hl 0 rfl) ?_
    refine lv_goto (tgt := 10) hx hb dX0_lowest_6 (by decide) ?_
    rw [if_pos c2] at hJ1
    exact hJ1
theorem hdX0_byFox : yX0_byFox.cls = RX0 ∧ yX0_byFox.cls ≠ "java/lang/invoke/MethodHandle" ∧ yX0_byFox.cls ≠ "java/lang/invoke/VarHandle" ∧ (parseMethodDescriptor yX0_byFox.desc).map (fun d => d.parameters.length) = some 5 := by decide +kernel
theorem ckX0_byFox {h : Hp} {a0 : Nat} {x1 : Int32} {x2 : Int32} {x3 : Int32} {x4 : Int32} {x5 : Int32} {res : Int64} (hf : fX0_byFox h a0 x1 x2 x3 x4 x5 = some res) : ep_cls h a0 = some 0 := by
  unfold fX0_byFox at hf
  exact (oi_c hf).1
abbrev wX0_byFox (p : Program) (l : Launch) (e : Env) (s : State) (m : MethodId) (below : List Frame) (meth : Method) (c : Code) (G : EG) (h : Hp) (a0 : Nat) (x1 : Int32) (x2 : Int32) (x3 : Int32) (x4 : Int32) (x5 : Int32) (res : Int64) (k9 n9 : Nat) (H : Heap) (locs : List Loc) (g : JFrame) : Prop := W p l e (headSpec (ws_ yX0_byFox cX0_byFox 15 (some .long)) ({ frames := 62, cells := 0, slots := 0, locals := 1427 } : Room)).room s m ([.ref a0, .int x1, .int x2, .int x3, .int x4, .int x5] : List Value).toArray below meth c H locs k9 n9 (MQ below (ep_Ql G ep_cl h res) ([.ref a0, .int x1, .int x2, .int x3, .int x4, .int x5] : List Value).toArray s 0 0 (ep_A G)) g
set_option maxHeartbeats 4000000 in
theorem metX0_byFox (l : Launch) (G : EG) (h : Hp) (a0 : Nat) (x1 : Int32) (x2 : Int32) (x3 : Int32) (x4 : Int32) (x5 : Int32) {res : Int64} (hf : fX0_byFox h a0 x1 x2 x3 x4 x5 = some res) : Met l yX0_byFox (ws_ yX0_byFox cX0_byFox 15 (some .long)) ({ frames := 62, cells := 0, slots := 0, locals := 1427 } : Room) (ep_Pc G ep_cl h [.ref a0, .int x1, .int x2, .int x3, .int x4, .int x5]) (ep_Ql G ep_cl h res) 0 0 (ep_A G) := by
  refine Met.ofW (cc := cX0_byFox) (maxL := 15) (ret := (some .long)) (by decide) rfl ?_
  intro p e s m args below meth c s₁ B hml hv
  obtain ⟨rfl, hR, hK, hZ⟩ := hv
  have hx := B.exec
  have hb := B.bytes
  have hr := B.returns
  have hlocks := B.notSynchronized
  have hts := atoms_spec (ws := (ws_ yX0_byFox cX0_byFox 15 (some .long))) B.pre
  have hts : ∀ w ∈ lw_all, w.before _ s = true := fun w h => hts w (List.mem_cons_of_mem _ h)
  have hown : s.vm.findClass RX0 = some m.cls := findClass_of_methodNamed B.named
  have hw : ep_W G ep_cl h s s.heap [] := ⟨hR, va_S.rf⟩
  have hl := lv_entry ([.ref a0, .int x1, .int x2, .int x3, .int x4, .int x5]) (n := 15) (Nat.le_of_ble_eq_true rfl)
  rw [lg_entry_eq]
  generalize (lg_sl ([.ref a0, .int x1, .int x2, .int x3, .int x4, .int x5]) ++ List.replicate (15 - (lg_sl ([.ref a0, .int x1, .int x2, .int x3, .int x4, .int x5])).length) Slot.unset).toArray = ls at hl ⊢
  have hl : lv_has ls 15 [(0, .ref a0), (1, .int x1), (2, .int x2), (3, .int x3), (4, .int x4), (5, .int x5)] := hl
  unfold fX0_byFox at hf
  have hf := (oi_c hf).2
  show wX0_byFox p l e s m below meth c G h a0 x1 x2 x3 x4 x5 res 0 0 s.heap ([]) (F0 m 0 ls [])
  refine lv_lconst (v := lI 0) hx hb dX0_byFox_0 (by decide) ?_
  refine lv_lstore (lv' := [(6, .long (lI 0)), (0, .ref a0), (1, .int x1), (2, .int x2), (3, .int x3), (4, .int x4), (5, .int x5)]) hx hb dX0_byFox_1 hl (by decide) rfl (fun ls hl => ?_)
  refine lv_lconst (v := lI 1) hx hb dX0_byFox_3 (by decide) ?_
  refine lv_lstore (lv' := [(8, .long (lI 1)), (6, .long (lI 0)), (0, .ref a0), (1, .int x1), (2, .int x2), (3, .int x3), (4, .int x4), (5, .int x5)]) hx hb dX0_byFox_4 hl (by decide) rfl (fun ls hl => ?_)
  refine lv_iconst (v := iI 0) hx hb dX0_byFox_6 rfl ?_
  refine lv_istore (lv' := [(10, .int (iI 0)), (8, .long (lI 1)), (6, .long (lI 0)), (0, .ref a0), (1, .int x1), (2, .int x2), (3, .int x3), (4, .int x4), (5, .int x5)]) hx hb dX0_byFox_7 hl (by decide) rfl (fun ls hl => ?_)
  obtain ⟨o1, ho1, hf⟩ := ob_s hf
  have hJ1 : ∀ (H : Heap) (locs : List Loc) (ls : Array Slot), ep_W G ep_cl h s H locs → lv_has ls 15 [(0, .ref a0), (1, .int x1), (2, .int x2), (3, .int x3), (4, .int x4), (5, .int x5), (6, .long (lI 0)), (8, .long o1)] → wX0_byFox p l e s m below meth c G h a0 x1 x2 x3 x4 x5 res 0 0 H locs (F0 m 29 ls []) := by
    intro H locs ls hw hl
    refine lv_iconst (v := iI 0) hx hb dX0_byFox_29 rfl ?_
    refine lv_istore (lv' := [(10, .int (iI 0)), (0, .ref a0), (1, .int x1), (2, .int x2), (3, .int x3), (4, .int x4), (5, .int x5), (6, .long (lI 0)), (8, .long o1)]) hx hb dX0_byFox_30 hl (by decide) rfl (fun ls hl => ?_)
    obtain ⟨o3, ho3, hf⟩ := ob_s hf
    have hJ3 : ∀ (H : Heap) (locs : List Loc) (ls : Array Slot), ep_W G ep_cl h s H locs → lv_has ls 15 [(5, .int x5), (6, .long o3), (8, .long o1)] → wX0_byFox p l e s m below meth c G h a0 x1 x2 x3 x4 x5 res 0 0 H locs (F0 m 137 ls []) := by
      intro H locs ls hw hl
      refine lv_lload hx hb dX0_byFox_137 (lv_at hl 1 rfl) ?_
      refine lv_lload hx hb dX0_byFox_139 (lv_at hl 2 rfl) ?_
      refine lv_iload hx hb dX0_byFox_141 (lv_at hl 0 rfl) ?_
      obtain ⟨v17, ev17, hf⟩ := ob_s hf
      refine ep_calll0 (va_runS (As := [.long o3, .long o1, .int x5]) (rest := []) ⟨hx, hb, hml, hown, hts⟩ (metX0_lowest l G h o3 o1 x5 ev17) (va_cwS 3 hts (lw_S q820 q821 q85 q822) rfl rfl rfl hsX0_lowest ⟨Nat.le_of_ble_eq_true rfl, Nat.le_of_ble_eq_true rfl⟩) (ep_preS hK hZ hw) rfl rfl hl.1 rfl (lv_room (Nat.le_of_ble_eq_true rfl)) dX0_byFox_143 ⟨Nat.le_of_ble_eq_true rfl, Nat.le_of_ble_eq_true rfl⟩) hw (fun H locs hw => ?_)
      exact ep_retlR hx hb hr hlocks hw hf dX0_byFox_146
    have hL3 : ∀ (fu : Nat) (x6 : Int64) (x10 : Int32), fX0_byFox_L32 h a0 x1 x2 x3 x4 x5 o1 fu x6 x10 = some o3 → ∀ (H : Heap) (locs : List Loc) (ls : Array Slot), ep_W G ep_cl h s H locs → lv_has ls 15 [(0, .ref a0), (1, .int x1), (2, .int x2), (3, .int x3), (4, .int x4), (5, .int x5), (6, .long x6), (8, .long o1), (10, .int x10)] → wX0_byFox p l e s m below meth c G h a0 x1 x2 x3 x4 x5 res 0 0 H locs (F0 m 32 ls []) := by
      intro fu
      induction fu with
      | zero => intro x6 x10 ho3; cases ho3
      | succ fu ih3 =>
        intro x6 x10 ho3 H locs ls hw hl
        rw [fX0_byFox_L32] at ho3
        refine lv_iload hx hb dX0_byFox_32 (lv_at hl 8 rfl) ?_
        refine lv_iconst (v := iI 1) hx hb dX0_byFox_34 rfl ?_
        refine lv_iload_n hx hb dX0_byFox_35 rfl (lv_at hl 3 rfl) ?_
        refine lv_ishl hx hb dX0_byFox_36 ?_
        refine lv_icmp_ge (tgt := 137) hx hb dX0_byFox_37 (by decide) (fun c4 => ?_) (fun c4 => ?_)
        · have ho3 := oi_t ho3 c4
          obtain rfl := Option.some.inj ho3
          exact hJ3 _ _ _ hw (lv_sub hl [5, 6, 7] rfl)
        · have ho3 := oi_f ho3 c4
          refine lv_iconst (v := iI 0) hx hb dX0_byFox_40 rfl ?_
          refine lv_aload_n hx hb dX0_byFox_41 rfl (lv_at hl 0 rfl) ?_
          obtain ⟨r5, er5, ho3⟩ := ob_s ho3
          refine ep_get (C := RX0) (T := TX0) (N := 25) (ci := 0) hx hb hts in_X0 hown hK hw rfl 3 (by decide) q930 (gR_f er5) dX0_byFox_42 ?_
          obtain ⟨r6, er6, ho3⟩ := ob_s ho3
          refine ep_getN (C := RX1) (T := TX1) (N := 11) (ci := 1) hx hb hts in_X1 hown hK hw rfl 4 (by decide) q159 (gR_f er6) dX0_byFox_45 ?_
          refine lv_iload_n hx hb dX0_byFox_48 rfl (lv_at hl 2 rfl) ?_
          obtain ⟨v7, ev7, ho3⟩ := ob_s ho3
          refine ep_iald hx hb hK hw ev7 dX0_byFox_49 ?_
          refine lv_iload hx hb dX0_byFox_50 (lv_at hl 8 rfl) ?_
          obtain ⟨v8, ev8, ho3⟩ := ob_s ho3
          refine ep_calli0 (va_runS (As := [.int x10]) (rest := [.int v7, .int (iI 0)]) ⟨hx, hb, hml, hown, hts⟩ (metJ9_bitCount l G h x10 ev8) (va_cwS 1 hts (lw_S q634 q530 q103 q531) rfl rfl rfl hsJ9_bitCount ⟨Nat.le_of_ble_eq_true rfl, Nat.le_of_ble_eq_true rfl⟩) (ep_preS hK hZ hw) rfl rfl hl.1 rfl (lv_room (Nat.le_of_ble_eq_true rfl)) dX0_byFox_52 ⟨Nat.le_of_ble_eq_true rfl, Nat.le_of_ble_eq_true rfl⟩) hw (fun H locs hw => ?_)
          refine lv_isub hx hb dX0_byFox_55 ?_
          refine va_mmax hx hb (hml.trans hl.1.symm) hown (hts _ q759) (hts _ q430) (hts _ q100) (hts _ q431) (Nat.le_of_ble_eq_true rfl) (Nat.le_of_ble_eq_true rfl) (Nat.le_of_ble_eq_true rfl) (Nat.le_of_ble_eq_true rfl) dX0_byFox_56 ?_
          refine lv_istore (lv' := [(11, .int (if (iI 0) < (v7 - v8) then (v7 - v8) else (iI 0))), (0, .ref a0), (1, .int x1), (2, .int x2), (3, .int x3), (4, .int x4), (5, .int x5), (6, .long x6), (8, .long o1), (10, .int x10)]) hx hb dX0_byFox_59 hl (by decide) rfl (fun ls hl => ?_)
          refine lv_iload hx hb dX0_byFox_61 (lv_at hl 5 rfl) ?_
          have hJ9 : wX0_byFox p l e s m below meth c G h a0 x1 x2 x3 x4 x5 res 0 0 H locs (F0 m 82 ls [.long (if x4 = 0 then (if (if (iI 0) < (v7 - v8) then (v7 - v8) else (iI 0)) ≤ 0 then lI 0 else lI 1) else (if (iI 0) < (v7 - v8) then (v7 - v8) else (iI 0)).toInt64)]) := by
            refine lv_lstore (lv' := [(12, .long (if x4 = 0 then (if (if (iI 0) < (v7 - v8) then (v7 - v8) else (iI 0)) ≤ 0 then lI 0 else lI 1) else (if (iI 0) < (v7 - v8) then (v7 - v8) else (iI 0)).toInt64)), (11, .int (if (iI 0) < (v7 - v8) then (v7 - v8) else (iI 0))), (0, .ref a0), (1, .int x1), (2, .int x2), (3, .int x3), (4, .int x4), (5, .int x5), (6, .long x6), (8, .long o1), (10, .int x10)]) hx hb dX0_byFox_82 hl (by decide) rfl (fun ls hl => ?_)
            refine lv_iconst (v := iI 0) hx hb dX0_byFox_84 rfl ?_
            refine lv_istore (lv' := [(14, .int (iI 0)), (12, .long (if x4 = 0 then (if (if (iI 0) < (v7 - v8) then (v7 - v8) else (iI 0)) ≤ 0 then lI 0 else lI 1) else (if (iI 0) < (v7 - v8) then (v7 - v8) else (iI 0)).toInt64)), (11, .int (if (iI 0) < (v7 - v8) then (v7 - v8) else (iI 0))), (0, .ref a0), (1, .int x1), (2, .int x2), (3, .int x3), (4, .int x4), (5, .int x5), (6, .long x6), (8, .long o1), (10, .int x10)]) hx hb dX0_byFox_85 hl (by decide) rfl (fun ls hl => ?_)
            obtain ⟨o12, ho12, ho3⟩ := ob_s ho3
            have hJ12 : ∀ (H : Heap) (locs : List Loc) (ls : Array Slot), ep_W G ep_cl h s H locs → lv_has ls 15 [(0, .ref a0), (1, .int x1), (2, .int x2), (3, .int x3), (4, .int x4), (5, .int x5), (6, .long x6), (8, .long o1), (10, .int x10), (12, .long o12)] → wX0_byFox p l e s m below meth c G h a0 x1 x2 x3 x4 x5 res 0 0 H locs (F0 m 124 ls []) := by
              intro H locs ls hw hl
              refine lv_lload hx hb dX0_byFox_124 (lv_at hl 6 rfl) ?_
              refine lv_lload hx hb dX0_byFox_126 (lv_at hl 9 rfl) ?_
              refine lv_ladd hx hb dX0_byFox_128 ?_
              refine lv_lstore (lv' := [(6, .long (x6 + o12)), (0, .ref a0), (1, .int x1), (2, .int x2), (3, .int x3), (4, .int x4), (5, .int x5), (8, .long o1), (10, .int x10), (12, .long o12)]) hx hb dX0_byFox_129 hl (by decide) rfl (fun ls hl => ?_)
              refine lv_iinc (v := (x10 + iI 1)) (lv' := [(10, .int (x10 + iI 1)), (6, .long (x6 + o12)), (0, .ref a0), (1, .int x1), (2, .int x2), (3, .int x3), (4, .int x4), (5, .int x5), (8, .long o1), (12, .long o12)]) hx hb dX0_byFox_131 hl (k := 8) rfl rfl (by decide) rfl (fun ls hl => ?_)
              refine lv_goto (tgt := 32) hx hb dX0_byFox_134 (by decide) ?_
              exact ih3 _ _ ho3 _ _ _ hw (lv_sub hl [2, 3, 4, 5, 6, 7, 1, 8, 0] rfl)
            have hL12 : ∀ (fu : Nat) (x12 : Int64) (x14 : Int32), fX0_byFox_L87 h a0 x1 x2 x3 x4 x5 x6 o1 x10 fu x12 x14 = some o12 → ∀ (H : Heap) (locs : List Loc) (ls : Array Slot), ep_W G ep_cl h s H locs → lv_has ls 15 [(0, .ref a0), (1, .int x1), (2, .int x2), (3, .int x3), (4, .int x4), (5, .int x5), (6, .long x6), (8, .long o1), (10, .int x10), (12, .long x12), (14, .int x14)] → wX0_byFox p l e s m below meth c G h a0 x1 x2 x3 x4 x5 res 0 0 H locs (F0 m 87 ls []) := by
              intro fu
              induction fu with
              | zero => intro x12 x14 ho12; cases ho12
              | succ fu ih12 =>
                intro x12 x14 ho12 H locs ls hw hl
                rw [fX0_byFox_L87] at ho12
                refine lv_iload hx hb dX0_byFox_87 (lv_at hl 10 rfl) ?_
                refine lv_iload_n hx hb dX0_byFox_89 rfl (lv_at hl 3 rfl) ?_
                refine lv_icmp_ge (tgt := 124) hx hb dX0_byFox_90 (by decide) (fun c13 => ?_) (fun c13 => ?_)
                · have ho12 := oi_t ho12 c13
                  obtain rfl := Option.some.inj ho12
                  exact hJ12 _ _ _ hw (lv_sub hl [0, 1, 2, 3, 4, 5, 6, 7, 8, 9] rfl)
                · have ho12 := oi_f ho12 c13
                  refine lv_lload hx hb dX0_byFox_93 (lv_at hl 9 rfl) ?_
                  refine lv_iload hx hb dX0_byFox_95 (lv_at hl 8 rfl) ?_
                  refine lv_iload hx hb dX0_byFox_97 (lv_at hl 10 rfl) ?_
                  obtain ⟨v14, ev14, ho12⟩ := ob_s ho12
                  refine ep_calli0 (va_runS (As := [.int x10, .int x14]) (rest := [.long x12]) ⟨hx, hb, hml, hown, hts⟩ (metX0_has l G h x10 x14 ev14) (va_cwS 2 hts (lw_S q731 q427 q85 q428) rfl rfl rfl hsX0_has ⟨Nat.le_of_ble_eq_true rfl, Nat.le_of_ble_eq_true rfl⟩) (ep_preS hK hZ hw) rfl rfl hl.1 rfl (lv_room (Nat.le_of_ble_eq_true rfl)) dX0_byFox_99 ⟨Nat.le_of_ble_eq_true rfl, Nat.le_of_ble_eq_true rfl⟩) hw (fun H locs hw => ?_)
                  have hJ15 : wX0_byFox p l e s m below meth c G h a0 x1 x2 x3 x4 x5 res 0 0 H locs (F0 m 115 ls [.long (if v14 = 0 then ((iI 10) - x1).toInt64 else x1.toInt64), .long x12]) := by
                    refine lv_lmul hx hb dX0_byFox_115 ?_
                    refine lv_lstore (lv' := [(12, .long (x12 * (if v14 = 0 then ((iI 10) - x1).toInt64 else x1.toInt64))), (0, .ref a0), (1, .int x1), (2, .int x2), (3, .int x3), (4, .int x4), (5, .int x5), (6, .long x6), (8, .long o1), (10, .int x10), (14, .int x14)]) hx hb dX0_byFox_116 hl (by decide) rfl (fun ls hl => ?_)
                    refine lv_iinc (v := (x14 + iI 1)) (lv' := [(14, .int (x14 + iI 1)), (12, .long (x12 * (if v14 = 0 then ((iI 10) - x1).toInt64 else x1.toInt64))), (0, .ref a0), (1, .int x1), (2, .int x2), (3, .int x3), (4, .int x4), (5, .int x5), (6, .long x6), (8, .long o1), (10, .int x10)]) hx hb dX0_byFox_118 hl (k := 10) rfl rfl (by decide) rfl (fun ls hl => ?_)
                    refine lv_goto (tgt := 87) hx hb dX0_byFox_121 (by decide) ?_
                    exact ih12 _ _ ho12 _ _ _ hw (lv_sub hl [2, 3, 4, 5, 6, 7, 8, 9, 10, 1, 0] rfl)
                  refine lv_if_eq (tgt := 110) hx hb dX0_byFox_102 (by decide) (fun c16 => ?_) (fun c16 => ?_)
                  · refine lv_bipush (v := iI 10) hx hb dX0_byFox_110 (by decide) ?_
                    refine lv_iload_n hx hb dX0_byFox_112 rfl (lv_at hl 1 rfl) ?_
                    refine lv_isub hx hb dX0_byFox_113 ?_
                    refine lv_i2l (v := ((iI 10) - x1).toInt64) hx hb dX0_byFox_114 rfl ?_
                    rw [if_pos c16] at hJ15
                    exact hJ15
                  · refine lv_iload_n hx hb dX0_byFox_105 rfl (lv_at hl 1 rfl) ?_
                    refine lv_i2l (v := x1.toInt64) hx hb dX0_byFox_106 rfl ?_
                    refine lv_goto (tgt := 115) hx hb dX0_byFox_107 (by decide) ?_
                    rw [if_neg c16] at hJ15
                    exact hJ15
            exact hL12 FUEL _ _ ho12 _ _ _ hw (lv_sub hl [3, 4, 5, 6, 7, 8, 9, 10, 11, 1, 0] rfl)
          refine lv_if_eq (tgt := 72) hx hb dX0_byFox_63 (by decide) (fun c10 => ?_) (fun c10 => ?_)
          · refine lv_iload hx hb dX0_byFox_72 (lv_at hl 0 rfl) ?_
            refine lv_if_le (tgt := 81) hx hb dX0_byFox_74 (by decide) (fun c11 => ?_) (fun c11 => ?_)
            · refine lv_lconst (v := lI 0) hx hb dX0_byFox_81 (by decide) ?_
              rw [if_pos c10, if_pos c11] at hJ9
              exact hJ9
            · refine lv_lconst (v := lI 1) hx hb dX0_byFox_77 (by decide) ?_
              refine lv_goto (tgt := 82) hx hb dX0_byFox_78 (by decide) ?_
              rw [if_pos c10, if_neg c11] at hJ9
              exact hJ9
          · refine lv_iload hx hb dX0_byFox_66 (lv_at hl 0 rfl) ?_
            refine lv_i2l (v := (if (iI 0) < (v7 - v8) then (v7 - v8) else (iI 0)).toInt64) hx hb dX0_byFox_68 rfl ?_
            refine lv_goto (tgt := 82) hx hb dX0_byFox_69 (by decide) ?_
            rw [if_neg c10] at hJ9
            exact hJ9
    exact hL3 FUEL _ _ ho3 _ _ _ hw (lv_sub hl [1, 2, 3, 4, 5, 6, 7, 8, 0] rfl)
  have hL1 : ∀ (fu : Nat) (x8 : Int64) (x10 : Int32), fX0_byFox_L9 h a0 x1 x2 x3 x4 x5 (lI 0) fu x8 x10 = some o1 → ∀ (H : Heap) (locs : List Loc) (ls : Array Slot), ep_W G ep_cl h s H locs → lv_has ls 15 [(0, .ref a0), (1, .int x1), (2, .int x2), (3, .int x3), (4, .int x4), (5, .int x5), (6, .long (lI 0)), (8, .long x8), (10, .int x10)] → wX0_byFox p l e s m below meth c G h a0 x1 x2 x3 x4 x5 res 0 0 H locs (F0 m 9 ls []) := by
    intro fu
    induction fu with
    | zero => intro x8 x10 ho1; cases ho1
    | succ fu ih1 =>
      intro x8 x10 ho1 H locs ls hw hl
      rw [fX0_byFox_L9] at ho1
      refine lv_iload hx hb dX0_byFox_9 (lv_at hl 8 rfl) ?_
      refine lv_iload_n hx hb dX0_byFox_11 rfl (lv_at hl 3 rfl) ?_
      refine lv_icmp_ge (tgt := 29) hx hb dX0_byFox_12 (by decide) (fun c2 => ?_) (fun c2 => ?_)
      · have ho1 := oi_t ho1 c2
        obtain rfl := Option.some.inj ho1
        exact hJ1 _ _ _ hw (lv_sub hl [0, 1, 2, 3, 4, 5, 6, 7] rfl)
      · have ho1 := oi_f ho1 c2
        refine lv_lload hx hb dX0_byFox_15 (lv_at hl 7 rfl) ?_
        refine lv_ldc2 (v := (10 : Int64)) hx hb hown (hts _ q621) dX0_byFox_17 ?_
        refine lv_lmul hx hb dX0_byFox_20 ?_
        refine lv_lstore (lv' := [(8, .long (x8 * (10 : Int64))), (0, .ref a0), (1, .int x1), (2, .int x2), (3, .int x3), (4, .int x4), (5, .int x5), (6, .long (lI 0)), (10, .int x10)]) hx hb dX0_byFox_21 hl (by decide) rfl (fun ls hl => ?_)
        refine lv_iinc (v := (x10 + iI 1)) (lv' := [(10, .int (x10 + iI 1)), (8, .long (x8 * (10 : Int64))), (0, .ref a0), (1, .int x1), (2, .int x2), (3, .int x3), (4, .int x4), (5, .int x5), (6, .long (lI 0))]) hx hb dX0_byFox_23 hl (k := 8) rfl rfl (by decide) rfl (fun ls hl => ?_)
        refine lv_goto (tgt := 9) hx hb dX0_byFox_26 (by decide) ?_
        exact ih1 _ _ ho1 _ _ _ hw (lv_sub hl [2, 3, 4, 5, 6, 7, 8, 1, 0] rfl)
  exact hL1 FUEL _ _ ho1 _ _ _ hw (lv_sub hl [3, 4, 5, 6, 7, 8, 2, 1, 0] rfl)
theorem hdX0_keeps : yX0_keeps.cls = RX0 ∧ yX0_keeps.cls ≠ "java/lang/invoke/MethodHandle" ∧ yX0_keeps.cls ≠ "java/lang/invoke/VarHandle" ∧ (parseMethodDescriptor yX0_keeps.desc).map (fun d => d.parameters.length) = some 4 := by decide +kernel
theorem ckX0_keeps {h : Hp} {a0 : Nat} {x1 : Int32} {x2 : Int32} {x3 : Int32} {x4 : Int32} {res : Int64} (hf : fX0_keeps h a0 x1 x2 x3 x4 = some res) : ep_cls h a0 = some 0 := by
  unfold fX0_keeps at hf
  exact (oi_c hf).1
abbrev wX0_keeps (p : Program) (l : Launch) (e : Env) (s : State) (m : MethodId) (below : List Frame) (meth : Method) (c : Code) (G : EG) (h : Hp) (a0 : Nat) (x1 : Int32) (x2 : Int32) (x3 : Int32) (x4 : Int32) (res : Int64) (k9 n9 : Nat) (H : Heap) (locs : List Loc) (g : JFrame) : Prop := W p l e (headSpec (ws_ yX0_keeps cX0_keeps 5 (some .long)) ({ frames := 63, cells := 0, slots := 0, locals := 1461 } : Room)).room s m ([.ref a0, .int x1, .int x2, .int x3, .int x4] : List Value).toArray below meth c H locs k9 n9 (MQ below (ep_Ql G ep_cl h res) ([.ref a0, .int x1, .int x2, .int x3, .int x4] : List Value).toArray s 0 0 (ep_A G)) g
set_option maxHeartbeats 4000000 in
theorem metX0_keeps (l : Launch) (G : EG) (h : Hp) (a0 : Nat) (x1 : Int32) (x2 : Int32) (x3 : Int32) (x4 : Int32) {res : Int64} (hf : fX0_keeps h a0 x1 x2 x3 x4 = some res) : Met l yX0_keeps (ws_ yX0_keeps cX0_keeps 5 (some .long)) ({ frames := 63, cells := 0, slots := 0, locals := 1461 } : Room) (ep_Pc G ep_cl h [.ref a0, .int x1, .int x2, .int x3, .int x4]) (ep_Ql G ep_cl h res) 0 0 (ep_A G) := by
  refine Met.ofW (cc := cX0_keeps) (maxL := 5) (ret := (some .long)) (by decide) rfl ?_
  intro p e s m args below meth c s₁ B hml hv
  obtain ⟨rfl, hR, hK, hZ⟩ := hv
  have hx := B.exec
  have hb := B.bytes
  have hr := B.returns
  have hlocks := B.notSynchronized
  have hts := atoms_spec (ws := (ws_ yX0_keeps cX0_keeps 5 (some .long))) B.pre
  have hts : ∀ w ∈ lw_all, w.before _ s = true := fun w h => hts w (List.mem_cons_of_mem _ h)
  have hown : s.vm.findClass RX0 = some m.cls := findClass_of_methodNamed B.named
  have hw : ep_W G ep_cl h s s.heap [] := ⟨hR, va_S.rf⟩
  have hl := lv_entry ([.ref a0, .int x1, .int x2, .int x3, .int x4]) (n := 5) (Nat.le_of_ble_eq_true rfl)
  rw [lg_entry_eq]
  generalize (lg_sl ([.ref a0, .int x1, .int x2, .int x3, .int x4]) ++ List.replicate (5 - (lg_sl ([.ref a0, .int x1, .int x2, .int x3, .int x4])).length) Slot.unset).toArray = ls at hl ⊢
  have hl : lv_has ls 5 [(0, .ref a0), (1, .int x1), (2, .int x2), (3, .int x3), (4, .int x4)] := hl
  unfold fX0_keeps at hf
  have hf := (oi_c hf).2
  show wX0_keeps p l e s m below meth c G h a0 x1 x2 x3 x4 res 0 0 s.heap ([]) (F0 m 0 ls [])
  refine lv_aload_n hx hb dX0_keeps_0 rfl (lv_at hl 0 rfl) ?_
  refine lv_iload_n hx hb dX0_keeps_1 rfl (lv_at hl 1 rfl) ?_
  refine lv_iload_n hx hb dX0_keeps_2 rfl (lv_at hl 2 rfl) ?_
  refine lv_iload_n hx hb dX0_keeps_3 rfl (lv_at hl 3 rfl) ?_
  refine lv_iload hx hb dX0_keeps_4 (lv_at hl 4 rfl) ?_
  obtain ⟨v1, ev1, hf⟩ := ob_s hf
  refine ep_calli0 (va_runV (As := [.int x1, .int x2, .int x3, .int x4]) (rest := []) ⟨hx, hb, hml, hown, hts⟩ (metX0_areFoxes l G h a0 x1 x2 x3 x4 ev1) (cwV 4 hts (lw_V q811 q813 qs31 q85 q814) rfl rfl rfl hdX0_areFoxes ⟨Nat.le_of_ble_eq_true rfl, Nat.le_of_ble_eq_true rfl⟩) (ep_preV hK hZ hw rfl (ckX0_areFoxes ev1)) rfl rfl hl.1 rfl (lv_room (Nat.le_of_ble_eq_true rfl)) dX0_keeps_6 ⟨Nat.le_of_ble_eq_true rfl, Nat.le_of_ble_eq_true rfl⟩) hw (fun H locs hw => ?_)
  refine lv_if_eq (tgt := 25) hx hb dX0_keeps_9 (by decide) (fun c2 => ?_) (fun c2 => ?_)
  · have hf := oi_t hf c2
    refine lv_ldc2 (v := (-1 : Int64)) hx hb hown (hts _ q826) dX0_keeps_25 ?_
    exact ep_retlR hx hb hr hlocks hw hf dX0_keeps_28
  · have hf := oi_f hf c2
    refine lv_aload_n hx hb dX0_keeps_12 rfl (lv_at hl 0 rfl) ?_
    refine lv_iload_n hx hb dX0_keeps_13 rfl (lv_at hl 1 rfl) ?_
    refine lv_iload_n hx hb dX0_keeps_14 rfl (lv_at hl 2 rfl) ?_
    refine lv_iload_n hx hb dX0_keeps_15 rfl (lv_at hl 3 rfl) ?_
    refine lv_iconst (v := iI 0) hx hb dX0_keeps_16 rfl ?_
    refine lv_iload hx hb dX0_keeps_17 (lv_at hl 4 rfl) ?_
    obtain ⟨v3, ev3, hf⟩ := ob_s hf
    refine ep_calll0 (va_runV (As := [.int x1, .int x2, .int x3, .int (iI 0), .int x4]) (rest := []) ⟨hx, hb, hml, hown, hts⟩ (metX0_byFox l G h a0 x1 x2 x3 (iI 0) x4 ev3) (cwV 5 hts (lw_V q816 q818 qs32 q85 q819) rfl rfl rfl hdX0_byFox ⟨Nat.le_of_ble_eq_true rfl, Nat.le_of_ble_eq_true rfl⟩) (ep_preV hK hZ hw rfl (ckX0_byFox ev3)) rfl rfl hl.1 rfl (lv_room (Nat.le_of_ble_eq_true rfl)) dX0_keeps_19 ⟨Nat.le_of_ble_eq_true rfl, Nat.le_of_ble_eq_true rfl⟩) hw (fun H locs hw => ?_)
    refine lv_goto (tgt := 28) hx hb dX0_keeps_22 (by decide) ?_
    exact ep_retlR hx hb hr hlocks hw hf dX0_keeps_28
theorem hdX0_mean : yX0_mean.cls = RX0 ∧ yX0_mean.cls ≠ "java/lang/invoke/MethodHandle" ∧ yX0_mean.cls ≠ "java/lang/invoke/VarHandle" ∧ (parseMethodDescriptor yX0_mean.desc).map (fun d => d.parameters.length) = some 4 := by decide +kernel
theorem ckX0_mean {h : Hp} {a0 : Nat} {x1 : Int32} {x2 : Int32} {x3 : Int32} {x4 : Int32} {res : Int64} (hf : fX0_mean h a0 x1 x2 x3 x4 = some res) : ep_cls h a0 = some 0 := by
  unfold fX0_mean at hf
  exact (oi_c hf).1
abbrev wX0_mean (p : Program) (l : Launch) (e : Env) (s : State) (m : MethodId) (below : List Frame) (meth : Method) (c : Code) (G : EG) (h : Hp) (a0 : Nat) (x1 : Int32) (x2 : Int32) (x3 : Int32) (x4 : Int32) (res : Int64) (k9 n9 : Nat) (H : Heap) (locs : List Loc) (g : JFrame) : Prop := W p l e (headSpec (ws_ yX0_mean cX0_mean 5 (some .long)) ({ frames := 63, cells := 0, slots := 0, locals := 1461 } : Room)).room s m ([.ref a0, .int x1, .int x2, .int x3, .int x4] : List Value).toArray below meth c H locs k9 n9 (MQ below (ep_Ql G ep_cl h res) ([.ref a0, .int x1, .int x2, .int x3, .int x4] : List Value).toArray s 0 0 (ep_A G)) g
set_option maxHeartbeats 4000000 in
theorem metX0_mean (l : Launch) (G : EG) (h : Hp) (a0 : Nat) (x1 : Int32) (x2 : Int32) (x3 : Int32) (x4 : Int32) {res : Int64} (hf : fX0_mean h a0 x1 x2 x3 x4 = some res) : Met l yX0_mean (ws_ yX0_mean cX0_mean 5 (some .long)) ({ frames := 63, cells := 0, slots := 0, locals := 1461 } : Room) (ep_Pc G ep_cl h [.ref a0, .int x1, .int x2, .int x3, .int x4]) (ep_Ql G ep_cl h res) 0 0 (ep_A G) := by
  refine Met.ofW (cc := cX0_mean) (maxL := 5) (ret := (some .long)) (by decide) rfl ?_
  intro p e s m args below meth c s₁ B hml hv
  obtain ⟨rfl, hR, hK, hZ⟩ := hv
  have hx := B.exec
  have hb := B.bytes
  have hr := B.returns
  have hlocks := B.notSynchronized
  have hts := atoms_spec (ws := (ws_ yX0_mean cX0_mean 5 (some .long))) B.pre
  have hts : ∀ w ∈ lw_all, w.before _ s = true := fun w h => hts w (List.mem_cons_of_mem _ h)
  have hown : s.vm.findClass RX0 = some m.cls := findClass_of_methodNamed B.named
  have hw : ep_W G ep_cl h s s.heap [] := ⟨hR, va_S.rf⟩
  have hl := lv_entry ([.ref a0, .int x1, .int x2, .int x3, .int x4]) (n := 5) (Nat.le_of_ble_eq_true rfl)
  rw [lg_entry_eq]
  generalize (lg_sl ([.ref a0, .int x1, .int x2, .int x3, .int x4]) ++ List.replicate (5 - (lg_sl ([.ref a0, .int x1, .int x2, .int x3, .int x4])).length) Slot.unset).toArray = ls at hl ⊢
  have hl : lv_has ls 5 [(0, .ref a0), (1, .int x1), (2, .int x2), (3, .int x3), (4, .int x4)] := hl
  unfold fX0_mean at hf
  have hf := (oi_c hf).2
  show wX0_mean p l e s m below meth c G h a0 x1 x2 x3 x4 res 0 0 s.heap ([]) (F0 m 0 ls [])
  refine lv_aload_n hx hb dX0_mean_0 rfl (lv_at hl 0 rfl) ?_
  refine lv_iload_n hx hb dX0_mean_1 rfl (lv_at hl 1 rfl) ?_
  refine lv_iload_n hx hb dX0_mean_2 rfl (lv_at hl 2 rfl) ?_
  refine lv_iload_n hx hb dX0_mean_3 rfl (lv_at hl 3 rfl) ?_
  refine lv_iload hx hb dX0_mean_4 (lv_at hl 4 rfl) ?_
  obtain ⟨v1, ev1, hf⟩ := ob_s hf
  refine ep_calli0 (va_runV (As := [.int x1, .int x2, .int x3, .int x4]) (rest := []) ⟨hx, hb, hml, hown, hts⟩ (metX0_areFoxes l G h a0 x1 x2 x3 x4 ev1) (cwV 4 hts (lw_V q811 q813 qs31 q85 q814) rfl rfl rfl hdX0_areFoxes ⟨Nat.le_of_ble_eq_true rfl, Nat.le_of_ble_eq_true rfl⟩) (ep_preV hK hZ hw rfl (ckX0_areFoxes ev1)) rfl rfl hl.1 rfl (lv_room (Nat.le_of_ble_eq_true rfl)) dX0_mean_6 ⟨Nat.le_of_ble_eq_true rfl, Nat.le_of_ble_eq_true rfl⟩) hw (fun H locs hw => ?_)
  refine lv_if_eq (tgt := 25) hx hb dX0_mean_9 (by decide) (fun c2 => ?_) (fun c2 => ?_)
  · have hf := oi_t hf c2
    refine lv_ldc2 (v := (-1 : Int64)) hx hb hown (hts _ q826) dX0_mean_25 ?_
    exact ep_retlR hx hb hr hlocks hw hf dX0_mean_28
  · have hf := oi_f hf c2
    refine lv_aload_n hx hb dX0_mean_12 rfl (lv_at hl 0 rfl) ?_
    refine lv_iload_n hx hb dX0_mean_13 rfl (lv_at hl 1 rfl) ?_
    refine lv_iload_n hx hb dX0_mean_14 rfl (lv_at hl 2 rfl) ?_
    refine lv_iload_n hx hb dX0_mean_15 rfl (lv_at hl 3 rfl) ?_
    refine lv_iconst (v := iI 1) hx hb dX0_mean_16 rfl ?_
    refine lv_iload hx hb dX0_mean_17 (lv_at hl 4 rfl) ?_
    obtain ⟨v3, ev3, hf⟩ := ob_s hf
    refine ep_calll0 (va_runV (As := [.int x1, .int x2, .int x3, .int (iI 1), .int x4]) (rest := []) ⟨hx, hb, hml, hown, hts⟩ (metX0_byFox l G h a0 x1 x2 x3 (iI 1) x4 ev3) (cwV 5 hts (lw_V q816 q818 qs32 q85 q819) rfl rfl rfl hdX0_byFox ⟨Nat.le_of_ble_eq_true rfl, Nat.le_of_ble_eq_true rfl⟩) (ep_preV hK hZ hw rfl (ckX0_byFox ev3)) rfl rfl hl.1 rfl (lv_room (Nat.le_of_ble_eq_true rfl)) dX0_mean_19 ⟨Nat.le_of_ble_eq_true rfl, Nat.le_of_ble_eq_true rfl⟩) hw (fun H locs hw => ?_)
    refine lv_goto (tgt := 28) hx hb dX0_mean_22 (by decide) ?_
    exact ep_retlR hx hb hr hlocks hw hf dX0_mean_28
theorem hdX0_see : yX0_see.cls = RX0 ∧ yX0_see.cls ≠ "java/lang/invoke/MethodHandle" ∧ yX0_see.cls ≠ "java/lang/invoke/VarHandle" ∧ (parseMethodDescriptor yX0_see.desc).map (fun d => d.parameters.length) = some 3 := by decide +kernel
theorem ckX0_see {h : Hp} {a0 : Nat} {x1 : Int32} {x2 : Int32} {x3 : Int32} {res : Int32 × Hp} (hf : fX0_see h a0 x1 x2 x3 = some res) : ep_cls h a0 = some 0 := by
  unfold fX0_see at hf
  exact (oi_c hf).1
abbrev wX0_see (p : Program) (l : Launch) (e : Env) (s : State) (m : MethodId) (below : List Frame) (meth : Method) (c : Code) (G : EG) (h : Hp) (a0 : Nat) (x1 : Int32) (x2 : Int32) (x3 : Int32) (res : Int32 × Hp) (k9 n9 : Nat) (H : Heap) (locs : List Loc) (g : JFrame) : Prop := W p l e (headSpec (ws_ yX0_see cX0_see 4 (some .int)) ({ frames := 2, cells := 0, slots := 0, locals := 46 } : Room)).room s m ([.ref a0, .int x1, .int x2, .int x3] : List Value).toArray below meth c H locs k9 n9 (MQ below (ep_Qi G ep_cl res.2 res.1) ([.ref a0, .int x1, .int x2, .int x3] : List Value).toArray s 0 0 (ep_A G)) g
set_option maxHeartbeats 4000000 in
theorem metX0_see (l : Launch) (G : EG) (h : Hp) (a0 : Nat) (x1 : Int32) (x2 : Int32) (x3 : Int32) {res : Int32 × Hp} (hf : fX0_see h a0 x1 x2 x3 = some res) : Met l yX0_see (ws_ yX0_see cX0_see 4 (some .int)) ({ frames := 2, cells := 0, slots := 0, locals := 46 } : Room) (ep_Pc G ep_cl h [.ref a0, .int x1, .int x2, .int x3]) (ep_Qi G ep_cl res.2 res.1) 0 0 (ep_A G) := by
  refine Met.ofW (cc := cX0_see) (maxL := 4) (ret := (some .int)) (by decide) rfl ?_
  intro p e s m args below meth c s₁ B hml hv
  obtain ⟨rfl, hR, hK, hZ⟩ := hv
  have hx := B.exec
  have hb := B.bytes
  have hr := B.returns
  have hlocks := B.notSynchronized
  have hts := atoms_spec (ws := (ws_ yX0_see cX0_see 4 (some .int))) B.pre
  have hts : ∀ w ∈ lw_all, w.before _ s = true := fun w h => hts w (List.mem_cons_of_mem _ h)
  have hown : s.vm.findClass RX0 = some m.cls := findClass_of_methodNamed B.named
  have hw : ep_W G ep_cl h s s.heap [] := ⟨hR, va_S.rf⟩
  have hl := lv_entry ([.ref a0, .int x1, .int x2, .int x3]) (n := 4) (Nat.le_of_ble_eq_true rfl)
  rw [lg_entry_eq]
  generalize (lg_sl ([.ref a0, .int x1, .int x2, .int x3]) ++ List.replicate (4 - (lg_sl ([.ref a0, .int x1, .int x2, .int x3])).length) Slot.unset).toArray = ls at hl ⊢
  have hl : lv_has ls 4 [(0, .ref a0), (1, .int x1), (2, .int x2), (3, .int x3)] := hl
  unfold fX0_see at hf
  have hf := (oi_c hf).2
  show wX0_see p l e s m below meth c G h a0 x1 x2 x3 res 0 0 s.heap ([]) (F0 m 0 ls [])
  refine lv_aload_n hx hb dX0_see_0 rfl (lv_at hl 0 rfl) ?_
  refine lv_iload_n hx hb dX0_see_1 rfl (lv_at hl 1 rfl) ?_
  obtain ⟨v1, ev1, hf⟩ := ob_s hf
  refine ep_calli0 (va_runV (As := [.int x1]) (rest := []) ⟨hx, hb, hml, hown, hts⟩ (metX0_isPen l G h a0 x1 ev1) (cwV 1 hts (lw_V q565 q567 qs14 q85 q569) rfl rfl rfl hdX0_isPen ⟨Nat.le_of_ble_eq_true rfl, Nat.le_of_ble_eq_true rfl⟩) (ep_preV hK hZ hw rfl (ckX0_isPen ev1)) rfl rfl hl.1 rfl (lv_room (Nat.le_of_ble_eq_true rfl)) dX0_see_2 ⟨Nat.le_of_ble_eq_true rfl, Nat.le_of_ble_eq_true rfl⟩) hw (fun H locs hw => ?_)
  refine lv_if_eq (tgt := 32) hx hb dX0_see_5 (by decide) (fun c2 => ?_) (fun c2 => ?_)
  · have hf := oi_t hf c2
    refine lv_iconst (v := iI (-1)) hx hb dX0_see_32 rfl ?_
    exact ep_retiW hx hb hr hlocks hw hf dX0_see_33
  · have hf := oi_f hf c2
    refine lv_iload_n hx hb dX0_see_8 rfl (lv_at hl 2 rfl) ?_
    refine lv_i2l (v := x2.toInt64) hx hb dX0_see_9 rfl ?_
    refine lv_lconst (v := lI 0) hx hb dX0_see_10 (by decide) ?_
    refine lv_ldc2 (v := (99 : Int64)) hx hb hown (hts _ q649) dX0_see_11 ?_
    obtain ⟨v3, ev3, hf⟩ := ob_s hf
    refine ep_calli0 (va_runS (As := [.long x2.toInt64, .long (lI 0), .long (99 : Int64)]) (rest := []) ⟨hx, hb, hml, hown, hts⟩ (metX0_isIn l G h x2.toInt64 (lI 0) (99 : Int64) ev3) (va_cwS 3 hts (lw_S q114 q115 q85 q116) rfl rfl rfl hsX0_isIn ⟨Nat.le_of_ble_eq_true rfl, Nat.le_of_ble_eq_true rfl⟩) (ep_preS hK hZ hw) rfl rfl hl.1 rfl (lv_room (Nat.le_of_ble_eq_true rfl)) dX0_see_14 ⟨Nat.le_of_ble_eq_true rfl, Nat.le_of_ble_eq_true rfl⟩) hw (fun H locs hw => ?_)
    refine lv_if_eq (tgt := 32) hx hb dX0_see_17 (by decide) (fun c4 => ?_) (fun c4 => ?_)
    · have hf := oi_t hf c4
      refine lv_iconst (v := iI (-1)) hx hb dX0_see_32 rfl ?_
      exact ep_retiW hx hb hr hlocks hw hf dX0_see_33
    · have hf := oi_f hf c4
      refine lv_iload_n hx hb dX0_see_20 rfl (lv_at hl 3 rfl) ?_
      refine lv_i2l (v := x3.toInt64) hx hb dX0_see_21 rfl ?_
      refine lv_lconst (v := lI 0) hx hb dX0_see_22 (by decide) ?_
      refine lv_ldc2 (v := (5 : Int64)) hx hb hown (hts _ q835) dX0_see_23 ?_
      obtain ⟨v5, ev5, hf⟩ := ob_s hf
      refine ep_calli0 (va_runS (As := [.long x3.toInt64, .long (lI 0), .long (5 : Int64)]) (rest := []) ⟨hx, hb, hml, hown, hts⟩ (metX0_isIn l G h x3.toInt64 (lI 0) (5 : Int64) ev5) (va_cwS 3 hts (lw_S q114 q115 q85 q116) rfl rfl rfl hsX0_isIn ⟨Nat.le_of_ble_eq_true rfl, Nat.le_of_ble_eq_true rfl⟩) (ep_preS hK hZ hw) rfl rfl hl.1 rfl (lv_room (Nat.le_of_ble_eq_true rfl)) dX0_see_26 ⟨Nat.le_of_ble_eq_true rfl, Nat.le_of_ble_eq_true rfl⟩) hw (fun H locs hw => ?_)
      refine lv_if_ne (tgt := 34) hx hb dX0_see_29 (by decide) (fun c6 => ?_) (fun c6 => ?_)
      · have hf := oi_f hf c6
        refine lv_aload_n hx hb dX0_see_34 rfl (lv_at hl 0 rfl) ?_
        obtain ⟨v7, ev7, hf⟩ := ob_s hf
        refine ep_get (C := RX0) (T := TX0) (N := 25) (ci := 0) hx hb hts in_X0 hown hK hw rfl 18 (by decide) q947 (gI_f ev7) dX0_see_35 ?_
        refine lv_bipush (v := iI 6) hx hb dX0_see_38 (by decide) ?_
        refine lv_icmp_ne (tgt := 46) hx hb dX0_see_40 (by decide) (fun c8 => ?_) (fun c8 => ?_)
        · have hf := oi_f hf c8
          refine lv_aload_n hx hb dX0_see_46 rfl (lv_at hl 0 rfl) ?_
          obtain ⟨r9, er9, hf⟩ := ob_s hf
          refine ep_get (C := RX0) (T := TX0) (N := 25) (ci := 0) hx hb hts in_X0 hown hK hw rfl 17 (by decide) q945 (gR_f er9) dX0_see_47 ?_
          refine lv_aload_n hx hb dX0_see_50 rfl (lv_at hl 0 rfl) ?_
          obtain ⟨v10, ev10, hf⟩ := ob_s hf
          refine ep_get (C := RX0) (T := TX0) (N := 25) (ci := 0) hx hb hts in_X0 hown hK hw rfl 18 (by decide) q947 (gI_f ev10) dX0_see_51 ?_
          obtain ⟨v11, ev11, hf⟩ := ob_s hf
          refine ep_aald 5 (by decide) rfl hx hb hK hw ev11 dX0_see_54 ?_
          refine lv_iconst (v := iI 0) hx hb dX0_see_55 rfl ?_
          refine lv_iload_n hx hb dX0_see_56 rfl (lv_at hl 1 rfl) ?_
          obtain ⟨h12, eh12, hf⟩ := ob_s hf
          refine ep_iast hx hb hK hw eh12 dX0_see_57 (fun H locs hw => ?_)
          refine lv_aload_n hx hb dX0_see_58 rfl (lv_at hl 0 rfl) ?_
          obtain ⟨r13, er13, hf⟩ := ob_s hf
          refine ep_get (C := RX0) (T := TX0) (N := 25) (ci := 0) hx hb hts in_X0 hown hK hw rfl 17 (by decide) q945 (gR_f er13) dX0_see_59 ?_
          refine lv_aload_n hx hb dX0_see_62 rfl (lv_at hl 0 rfl) ?_
          obtain ⟨v14, ev14, hf⟩ := ob_s hf
          refine ep_get (C := RX0) (T := TX0) (N := 25) (ci := 0) hx hb hts in_X0 hown hK hw rfl 18 (by decide) q947 (gI_f ev14) dX0_see_63 ?_
          obtain ⟨v15, ev15, hf⟩ := ob_s hf
          refine ep_aald 5 (by decide) rfl hx hb hK hw ev15 dX0_see_66 ?_
          refine lv_iconst (v := iI 1) hx hb dX0_see_67 rfl ?_
          refine lv_iload_n hx hb dX0_see_68 rfl (lv_at hl 2 rfl) ?_
          obtain ⟨h16, eh16, hf⟩ := ob_s hf
          refine ep_iast hx hb hK hw eh16 dX0_see_69 (fun H locs hw => ?_)
          refine lv_aload_n hx hb dX0_see_70 rfl (lv_at hl 0 rfl) ?_
          obtain ⟨r17, er17, hf⟩ := ob_s hf
          refine ep_get (C := RX0) (T := TX0) (N := 25) (ci := 0) hx hb hts in_X0 hown hK hw rfl 17 (by decide) q945 (gR_f er17) dX0_see_71 ?_
          refine lv_aload_n hx hb dX0_see_74 rfl (lv_at hl 0 rfl) ?_
          obtain ⟨v18, ev18, hf⟩ := ob_s hf
          refine ep_get (C := RX0) (T := TX0) (N := 25) (ci := 0) hx hb hts in_X0 hown hK hw rfl 18 (by decide) q947 (gI_f ev18) dX0_see_75 ?_
          obtain ⟨v19, ev19, hf⟩ := ob_s hf
          refine ep_aald 5 (by decide) rfl hx hb hK hw ev19 dX0_see_78 ?_
          refine lv_iconst (v := iI 2) hx hb dX0_see_79 rfl ?_
          refine lv_iload_n hx hb dX0_see_80 rfl (lv_at hl 3 rfl) ?_
          obtain ⟨h20, eh20, hf⟩ := ob_s hf
          refine ep_iast hx hb hK hw eh20 dX0_see_81 (fun H locs hw => ?_)
          refine lv_aload_n hx hb dX0_see_82 rfl (lv_at hl 0 rfl) ?_
          refine lv_dup hx hb dX0_see_83 rfl ?_
          obtain ⟨v21, ev21, hf⟩ := ob_s hf
          refine ep_get (C := RX0) (T := TX0) (N := 25) (ci := 0) hx hb hts in_X0 hown hK hw rfl 18 (by decide) q947 (gI_f ev21) dX0_see_84 ?_
          refine lv_iconst (v := iI 1) hx hb dX0_see_87 rfl ?_
          refine lv_iadd hx hb dX0_see_88 ?_
          obtain ⟨h22, eh22, hf⟩ := ob_s hf
          refine ep_put (C := RX0) (T := TX0) (N := 25) (ci := 0) hx hb hts in_X0 tyX0 tyX0_ok nmX0 hown hK hw rfl (by decide) 18 (by decide) q947 rfl rfl rfl eh22 dX0_see_89 (fun H locs hw => ?_)
          refine lv_aload_n hx hb dX0_see_92 rfl (lv_at hl 0 rfl) ?_
          obtain ⟨v23, ev23, hf⟩ := ob_s hf
          refine ep_get (C := RX0) (T := TX0) (N := 25) (ci := 0) hx hb hts in_X0 hown hK hw rfl 18 (by decide) q947 (gI_f ev23) dX0_see_93 ?_
          exact ep_retiW hx hb hr hlocks hw hf dX0_see_96
        · have hf := oi_t hf c8
          refine lv_bipush (v := iI (-3)) hx hb dX0_see_43 (by decide) ?_
          exact ep_retiW hx hb hr hlocks hw hf dX0_see_45
      · have hf := oi_t hf c6
        refine lv_iconst (v := iI (-1)) hx hb dX0_see_32 rfl ?_
        exact ep_retiW hx hb hr hlocks hw hf dX0_see_33
theorem hdX0_forget : yX0_forget.cls = RX0 ∧ yX0_forget.cls ≠ "java/lang/invoke/MethodHandle" ∧ yX0_forget.cls ≠ "java/lang/invoke/VarHandle" ∧ (parseMethodDescriptor yX0_forget.desc).map (fun d => d.parameters.length) = some 1 := by decide +kernel
theorem ckX0_forget {h : Hp} {a0 : Nat} {x1 : Int32} {res : Int32 × Hp} (hf : fX0_forget h a0 x1 = some res) : ep_cls h a0 = some 0 := by
  unfold fX0_forget at hf
  exact (oi_c hf).1
abbrev wX0_forget (p : Program) (l : Launch) (e : Env) (s : State) (m : MethodId) (below : List Frame) (meth : Method) (c : Code) (G : EG) (h : Hp) (a0 : Nat) (x1 : Int32) (res : Int32 × Hp) (k9 n9 : Nat) (H : Heap) (locs : List Loc) (g : JFrame) : Prop := W p l e (headSpec (ws_ yX0_forget cX0_forget 3 (some .int)) ({ frames := 1, cells := 0, slots := 0, locals := 25 } : Room)).room s m ([.ref a0, .int x1] : List Value).toArray below meth c H locs k9 n9 (MQ below (ep_Qi G ep_cl res.2 res.1) ([.ref a0, .int x1] : List Value).toArray s 0 0 (ep_A G)) g
set_option maxHeartbeats 4000000 in
theorem metX0_forget (l : Launch) (G : EG) (h : Hp) (a0 : Nat) (x1 : Int32) {res : Int32 × Hp} (hf : fX0_forget h a0 x1 = some res) : Met l yX0_forget (ws_ yX0_forget cX0_forget 3 (some .int)) ({ frames := 1, cells := 0, slots := 0, locals := 25 } : Room) (ep_Pc G ep_cl h [.ref a0, .int x1]) (ep_Qi G ep_cl res.2 res.1) 0 0 (ep_A G) := by
  refine Met.ofW (cc := cX0_forget) (maxL := 3) (ret := (some .int)) (by decide) rfl ?_
  intro p e s m args below meth c s₁ B hml hv
  obtain ⟨rfl, hR, hK, hZ⟩ := hv
  have hx := B.exec
  have hb := B.bytes
  have hr := B.returns
  have hlocks := B.notSynchronized
  have hts := atoms_spec (ws := (ws_ yX0_forget cX0_forget 3 (some .int))) B.pre
  have hts : ∀ w ∈ lw_all, w.before _ s = true := fun w h => hts w (List.mem_cons_of_mem _ h)
  have hown : s.vm.findClass RX0 = some m.cls := findClass_of_methodNamed B.named
  have hw : ep_W G ep_cl h s s.heap [] := ⟨hR, va_S.rf⟩
  have hl := lv_entry ([.ref a0, .int x1]) (n := 3) (Nat.le_of_ble_eq_true rfl)
  rw [lg_entry_eq]
  generalize (lg_sl ([.ref a0, .int x1]) ++ List.replicate (3 - (lg_sl ([.ref a0, .int x1])).length) Slot.unset).toArray = ls at hl ⊢
  have hl : lv_has ls 3 [(0, .ref a0), (1, .int x1)] := hl
  unfold fX0_forget at hf
  have hf := (oi_c hf).2
  show wX0_forget p l e s m below meth c G h a0 x1 res 0 0 s.heap ([]) (F0 m 0 ls [])
  refine lv_iload_n hx hb dX0_forget_0 rfl (lv_at hl 1 rfl) ?_
  refine lv_i2l (v := x1.toInt64) hx hb dX0_forget_1 rfl ?_
  refine lv_lconst (v := lI 0) hx hb dX0_forget_2 (by decide) ?_
  refine lv_aload_n hx hb dX0_forget_3 rfl (lv_at hl 0 rfl) ?_
  obtain ⟨v1, ev1, hf⟩ := ob_s hf
  refine ep_get (C := RX0) (T := TX0) (N := 25) (ci := 0) hx hb hts in_X0 hown hK hw rfl 18 (by decide) q947 (gI_f ev1) dX0_forget_4 ?_
  refine lv_i2l (v := v1.toInt64) hx hb dX0_forget_7 rfl ?_
  obtain ⟨v2, ev2, hf⟩ := ob_s hf
  refine ep_calli0 (va_runS (As := [.long x1.toInt64, .long (lI 0), .long v1.toInt64]) (rest := []) ⟨hx, hb, hml, hown, hts⟩ (metX0_isIn l G h x1.toInt64 (lI 0) v1.toInt64 ev2) (va_cwS 3 hts (lw_S q114 q115 q85 q116) rfl rfl rfl hsX0_isIn ⟨Nat.le_of_ble_eq_true rfl, Nat.le_of_ble_eq_true rfl⟩) (ep_preS hK hZ hw) rfl rfl hl.1 rfl (lv_room (Nat.le_of_ble_eq_true rfl)) dX0_forget_8 ⟨Nat.le_of_ble_eq_true rfl, Nat.le_of_ble_eq_true rfl⟩) hw (fun H locs hw => ?_)
  refine lv_if_ne (tgt := 16) hx hb dX0_forget_11 (by decide) (fun c3 => ?_) (fun c3 => ?_)
  · have hf := oi_f hf c3
    refine lv_aload_n hx hb dX0_forget_16 rfl (lv_at hl 0 rfl) ?_
    obtain ⟨v4, ev4, hf⟩ := ob_s hf
    refine ep_get (C := RX0) (T := TX0) (N := 25) (ci := 0) hx hb hts in_X0 hown hK hw rfl 18 (by decide) q947 (gI_f ev4) dX0_forget_17 ?_
    refine lv_istore_n (lv' := [(2, .int v4), (0, .ref a0), (1, .int x1)]) hx hb dX0_forget_20 rfl hl (by decide) rfl (fun ls hl => ?_)
    refine lv_aload_n hx hb dX0_forget_21 rfl (lv_at hl 1 rfl) ?_
    refine lv_iload_n hx hb dX0_forget_22 rfl (lv_at hl 2 rfl) ?_
    obtain ⟨h5, eh5, hf⟩ := ob_s hf
    refine ep_put (C := RX0) (T := TX0) (N := 25) (ci := 0) hx hb hts in_X0 tyX0 tyX0_ok nmX0 hown hK hw rfl (by decide) 18 (by decide) q947 rfl rfl rfl eh5 dX0_forget_23 (fun H locs hw => ?_)
    refine lv_iload_n hx hb dX0_forget_26 rfl (lv_at hl 0 rfl) ?_
    exact ep_retiW hx hb hr hlocks hw hf dX0_forget_27
  · have hf := oi_t hf c3
    refine lv_iconst (v := iI (-1)) hx hb dX0_forget_14 rfl ?_
    exact ep_retiW hx hb hr hlocks hw hf dX0_forget_15
theorem hdX0_fits : yX0_fits.cls = RX0 ∧ yX0_fits.cls ≠ "java/lang/invoke/MethodHandle" ∧ yX0_fits.cls ≠ "java/lang/invoke/VarHandle" ∧ (parseMethodDescriptor yX0_fits.desc).map (fun d => d.parameters.length) = some 1 := by decide +kernel
theorem ckX0_fits {h : Hp} {a0 : Nat} {x1 : Int32} {res : Int32 × Hp} (hf : fX0_fits h a0 x1 = some res) : ep_cls h a0 = some 0 := by
  unfold fX0_fits at hf
  exact (oi_c hf).1
abbrev wX0_fits (p : Program) (l : Launch) (e : Env) (s : State) (m : MethodId) (below : List Frame) (meth : Method) (c : Code) (G : EG) (h : Hp) (a0 : Nat) (x1 : Int32) (res : Int32 × Hp) (k9 n9 : Nat) (H : Heap) (locs : List Loc) (g : JFrame) : Prop := W p l e (headSpec (ws_ yX0_fits cX0_fits 2 (some .int)) ({ frames := 24, cells := 0, slots := 0, locals := 608 } : Room)).room s m ([.ref a0, .int x1] : List Value).toArray below meth c H locs k9 n9 (MQ below (ep_Qi G ep_cl res.2 res.1) ([.ref a0, .int x1] : List Value).toArray s 0 0 (ep_A G)) g
set_option maxHeartbeats 4000000 in
theorem metX0_fits (l : Launch) (G : EG) (h : Hp) (a0 : Nat) (x1 : Int32) {res : Int32 × Hp} (hf : fX0_fits h a0 x1 = some res) : Met l yX0_fits (ws_ yX0_fits cX0_fits 2 (some .int)) ({ frames := 24, cells := 0, slots := 0, locals := 608 } : Room) (ep_Pc G ep_cl h [.ref a0, .int x1]) (ep_Qi G ep_cl res.2 res.1) 0 0 (ep_A G) := by
  refine Met.ofW (cc := cX0_fits) (maxL := 2) (ret := (some .int)) (by decide) rfl ?_
  intro p e s m args below meth c s₁ B hml hv
  obtain ⟨rfl, hR, hK, hZ⟩ := hv
  have hx := B.exec
  have hb := B.bytes
  have hr := B.returns
  have hlocks := B.notSynchronized
  have hts := atoms_spec (ws := (ws_ yX0_fits cX0_fits 2 (some .int))) B.pre
  have hts : ∀ w ∈ lw_all, w.before _ s = true := fun w h => hts w (List.mem_cons_of_mem _ h)
  have hown : s.vm.findClass RX0 = some m.cls := findClass_of_methodNamed B.named
  have hw : ep_W G ep_cl h s s.heap [] := ⟨hR, va_S.rf⟩
  have hl := lv_entry ([.ref a0, .int x1]) (n := 2) (Nat.le_of_ble_eq_true rfl)
  rw [lg_entry_eq]
  generalize (lg_sl ([.ref a0, .int x1]) ++ List.replicate (2 - (lg_sl ([.ref a0, .int x1])).length) Slot.unset).toArray = ls at hl ⊢
  have hl : lv_has ls 2 [(0, .ref a0), (1, .int x1)] := hl
  unfold fX0_fits at hf
  have hf := (oi_c hf).2
  show wX0_fits p l e s m below meth c G h a0 x1 res 0 0 s.heap ([]) (F0 m 0 ls [])
  refine lv_iload_n hx hb dX0_fits_0 rfl (lv_at hl 1 rfl) ?_
  obtain ⟨ox1, ho1, hk1⟩ := orL_s hf
  have hT1 : ∀ r, ox1 = .inl r → some r = some res := fun r eo => (by have e := orL_1 hk1 eo; exact e)
  have hJ1 : ∀ o1, ox1 = .inr o1 → ∀ (H : Heap) (locs : List Loc) (ls : Array Slot), ep_W G ep_cl h s H locs → lv_has ls 2 [(0, .ref a0), (1, .int x1)] → wX0_fits p l e s m below meth c G h a0 x1 res 0 0 H locs (F0 m 30 ls []) := by
    intro o1 eo H locs ls hw hl
    have hf := orL_2 hk1 eo
    refine lv_aload_n hx hb dX0_fits_30 rfl (lv_at hl 0 rfl) ?_
    refine lv_bipush (v := iI (-4)) hx hb dX0_fits_31 (by decide) ?_
    refine lv_iconst (v := iI 0) hx hb dX0_fits_33 rfl ?_
    refine lv_iconst (v := iI 0) hx hb dX0_fits_34 rfl ?_
    obtain ⟨o7, eo7, hf⟩ := ob_s hf
    refine ep_callv0 (va_runV (As := [.int (iI (-4)), .int (iI 0), .int (iI 0)]) (rest := []) ⟨hx, hb, hml, hown, hts⟩ (metX0_allWays l G h a0 (iI (-4)) (iI 0) (iI 0) eo7) (cwV 3 hts (lw_V q785 q787 qs27 q85 q788) rfl rfl rfl hdX0_allWays ⟨Nat.le_of_ble_eq_true rfl, Nat.le_of_ble_eq_true rfl⟩) (ep_preV hK hZ hw rfl (ckX0_allWays eo7)) rfl rfl hl.1 rfl (lv_room (Nat.le_of_ble_eq_true rfl)) dX0_fits_35 ⟨Nat.le_of_ble_eq_true rfl, Nat.le_of_ble_eq_true rfl⟩) hw (fun H locs hw => ?_)
    refine lv_iload_n hx hb dX0_fits_38 rfl (lv_at hl 1 rfl) ?_
    refine lv_if_ne (tgt := 49) hx hb dX0_fits_39 (by decide) (fun c8 => ?_) (fun c8 => ?_)
    · have hf := oi_f hf c8
      refine lv_aload_n hx hb dX0_fits_49 rfl (lv_at hl 0 rfl) ?_
      obtain ⟨r9, er9, hf⟩ := ob_s hf
      refine ep_get (C := RX0) (T := TX0) (N := 25) (ci := 0) hx hb hts in_X0 hown hK hw rfl 15 (by decide) q942 (gR_f er9) dX0_fits_50 ?_
      refine lv_iload_n hx hb dX0_fits_53 rfl (lv_at hl 1 rfl) ?_
      refine lv_bipush (v := iI 10) hx hb dX0_fits_54 (by decide) ?_
      refine lv_isub hx hb dX0_fits_56 ?_
      obtain ⟨v10, ev10, hf⟩ := ob_s hf
      refine ep_iald hx hb hK hw ev10 dX0_fits_57 ?_
      exact ep_retiW hx hb hr hlocks hw hf dX0_fits_58
    · have hf := oi_t hf c8
      refine lv_aload_n hx hb dX0_fits_42 rfl (lv_at hl 0 rfl) ?_
      obtain ⟨v11, ev11, hf⟩ := ob_s hf
      refine ep_get (C := RX0) (T := TX0) (N := 25) (ci := 0) hx hb hts in_X0 hown hK hw rfl 14 (by decide) q941 (gI_f ev11) dX0_fits_43 ?_
      refine lv_goto (tgt := 58) hx hb dX0_fits_46 (by decide) ?_
      exact ep_retiW hx hb hr hlocks hw hf dX0_fits_58
  refine lv_if_eq (tgt := 30) hx hb dX0_fits_1 (by decide) (fun c2 => ?_) (fun c2 => ?_)
  · have ho1 := oi_t ho1 c2
    exact hJ1 _ (Option.some.inj ho1).symm _ _ _ hw (lv_sub hl [0, 1] rfl)
  · have ho1 := oi_f ho1 c2
    refine lv_iload_n hx hb dX0_fits_4 rfl (lv_at hl 1 rfl) ?_
    refine lv_i2l (v := x1.toInt64) hx hb dX0_fits_5 rfl ?_
    refine lv_ldc2 (v := (10 : Int64)) hx hb hown (hts _ q621) dX0_fits_6 ?_
    refine lv_bipush (v := iI 10) hx hb dX0_fits_9 (by decide) ?_
    refine lv_aload_n hx hb dX0_fits_11 rfl (lv_at hl 0 rfl) ?_
    obtain ⟨r3, er3, ho1⟩ := ob_s ho1
    refine ep_get (C := RX0) (T := TX0) (N := 25) (ci := 0) hx hb hts in_X0 hown hK hw rfl 3 (by decide) q930 (gR_f er3) dX0_fits_12 ?_
    obtain ⟨v4, ev4, ho1⟩ := ob_s ho1
    refine ep_getN (C := RX1) (T := TX1) (N := 11) (ci := 1) hx hb hts in_X1 hown hK hw rfl 7 (by decide) q167 (gI_f ev4) dX0_fits_15 ?_
    refine lv_iadd hx hb dX0_fits_18 ?_
    refine lv_iconst (v := iI 1) hx hb dX0_fits_19 rfl ?_
    refine lv_isub hx hb dX0_fits_20 ?_
    refine lv_i2l (v := (((iI 10) + v4) - (iI 1)).toInt64) hx hb dX0_fits_21 rfl ?_
    obtain ⟨v5, ev5, ho1⟩ := ob_s ho1
    refine ep_calli0 (va_runS (As := [.long x1.toInt64, .long (10 : Int64), .long ((((iI 10) + v4) - (iI 1)).toInt64)]) (rest := []) ⟨hx, hb, hml, hown, hts⟩ (metX0_isIn l G h x1.toInt64 (10 : Int64) ((((iI 10) + v4) - (iI 1)).toInt64) ev5) (va_cwS 3 hts (lw_S q114 q115 q85 q116) rfl rfl rfl hsX0_isIn ⟨Nat.le_of_ble_eq_true rfl, Nat.le_of_ble_eq_true rfl⟩) (ep_preS hK hZ hw) rfl rfl hl.1 rfl (lv_room (Nat.le_of_ble_eq_true rfl)) dX0_fits_22 ⟨Nat.le_of_ble_eq_true rfl, Nat.le_of_ble_eq_true rfl⟩) hw (fun H locs hw => ?_)
    refine lv_if_ne (tgt := 30) hx hb dX0_fits_25 (by decide) (fun c6 => ?_) (fun c6 => ?_)
    · have ho1 := oi_f ho1 c6
      exact hJ1 _ (Option.some.inj ho1).symm _ _ _ hw (lv_sub hl [0, 1] rfl)
    · have ho1 := oi_t ho1 c6
      refine lv_iconst (v := iI (-1)) hx hb dX0_fits_28 rfl ?_
      exact ep_retiW hx hb hr hlocks hw (hT1 _ (Option.some.inj ho1).symm) dX0_fits_29
theorem hdX0_listen : yX0_listen.cls = RX0 ∧ yX0_listen.cls ≠ "java/lang/invoke/MethodHandle" ∧ yX0_listen.cls ≠ "java/lang/invoke/VarHandle" ∧ (parseMethodDescriptor yX0_listen.desc).map (fun d => d.parameters.length) = some 2 := by decide +kernel
theorem ckX0_listen {h : Hp} {a0 : Nat} {x1 : Int32} {x2 : Int32} {res : Int32 × Hp} (hf : fX0_listen h a0 x1 x2 = some res) : ep_cls h a0 = some 0 := by
  unfold fX0_listen at hf
  exact (oi_c hf).1
abbrev wX0_listen (p : Program) (l : Launch) (e : Env) (s : State) (m : MethodId) (below : List Frame) (meth : Method) (c : Code) (G : EG) (h : Hp) (a0 : Nat) (x1 : Int32) (x2 : Int32) (res : Int32 × Hp) (k9 n9 : Nat) (H : Heap) (locs : List Loc) (g : JFrame) : Prop := W p l e (headSpec (ws_ yX0_listen cX0_listen 8 (some .int)) ({ frames := 24, cells := 0, slots := 0, locals := 608 } : Room)).room s m ([.ref a0, .int x1, .int x2] : List Value).toArray below meth c H locs k9 n9 (MQ below (ep_Qi G ep_cl res.2 res.1) ([.ref a0, .int x1, .int x2] : List Value).toArray s 0 0 (ep_A G)) g
set_option maxHeartbeats 4000000 in
theorem metX0_listen (l : Launch) (G : EG) (h : Hp) (a0 : Nat) (x1 : Int32) (x2 : Int32) {res : Int32 × Hp} (hf : fX0_listen h a0 x1 x2 = some res) : Met l yX0_listen (ws_ yX0_listen cX0_listen 8 (some .int)) ({ frames := 24, cells := 0, slots := 0, locals := 608 } : Room) (ep_Pc G ep_cl h [.ref a0, .int x1, .int x2]) (ep_Qi G ep_cl res.2 res.1) 0 0 (ep_A G) := by
  refine Met.ofW (cc := cX0_listen) (maxL := 8) (ret := (some .int)) (by decide) rfl ?_
  intro p e s m args below meth c s₁ B hml hv
  obtain ⟨rfl, hR, hK, hZ⟩ := hv
  have hx := B.exec
  have hb := B.bytes
  have hr := B.returns
  have hlocks := B.notSynchronized
  have hts := atoms_spec (ws := (ws_ yX0_listen cX0_listen 8 (some .int))) B.pre
  have hts : ∀ w ∈ lw_all, w.before _ s = true := fun w h => hts w (List.mem_cons_of_mem _ h)
  have hown : s.vm.findClass RX0 = some m.cls := findClass_of_methodNamed B.named
  have hw : ep_W G ep_cl h s s.heap [] := ⟨hR, va_S.rf⟩
  have hl := lv_entry ([.ref a0, .int x1, .int x2]) (n := 8) (Nat.le_of_ble_eq_true rfl)
  rw [lg_entry_eq]
  generalize (lg_sl ([.ref a0, .int x1, .int x2]) ++ List.replicate (8 - (lg_sl ([.ref a0, .int x1, .int x2])).length) Slot.unset).toArray = ls at hl ⊢
  have hl : lv_has ls 8 [(0, .ref a0), (1, .int x1), (2, .int x2)] := hl
  unfold fX0_listen at hf
  have hf := (oi_c hf).2
  show wX0_listen p l e s m below meth c G h a0 x1 x2 res 0 0 s.heap ([]) (F0 m 0 ls [])
  refine lv_aload_n hx hb dX0_listen_0 rfl (lv_at hl 0 rfl) ?_
  refine lv_iload_n hx hb dX0_listen_1 rfl (lv_at hl 1 rfl) ?_
  obtain ⟨v1, ev1, hf⟩ := ob_s hf
  refine ep_calli0 (va_runV (As := [.int x1]) (rest := []) ⟨hx, hb, hml, hown, hts⟩ (metX0_isPen l G h a0 x1 ev1) (cwV 1 hts (lw_V q565 q567 qs14 q85 q569) rfl rfl rfl hdX0_isPen ⟨Nat.le_of_ble_eq_true rfl, Nat.le_of_ble_eq_true rfl⟩) (ep_preV hK hZ hw rfl (ckX0_isPen ev1)) rfl rfl hl.1 rfl (lv_room (Nat.le_of_ble_eq_true rfl)) dX0_listen_2 ⟨Nat.le_of_ble_eq_true rfl, Nat.le_of_ble_eq_true rfl⟩) hw (fun H locs hw => ?_)
  refine lv_if_eq (tgt := 18) hx hb dX0_listen_5 (by decide) (fun c2 => ?_) (fun c2 => ?_)
  · have hf := oi_t hf c2
    refine lv_iconst (v := iI (-1)) hx hb dX0_listen_18 rfl ?_
    exact ep_retiW hx hb hr hlocks hw hf dX0_listen_19
  · have hf := oi_f hf c2
    refine lv_iload_n hx hb dX0_listen_8 rfl (lv_at hl 2 rfl) ?_
    refine lv_i2l (v := x2.toInt64) hx hb dX0_listen_9 rfl ?_
    refine lv_lconst (v := lI 0) hx hb dX0_listen_10 (by decide) ?_
    refine lv_lconst (v := lI 1) hx hb dX0_listen_11 (by decide) ?_
    obtain ⟨v3, ev3, hf⟩ := ob_s hf
    refine ep_calli0 (va_runS (As := [.long x2.toInt64, .long (lI 0), .long (lI 1)]) (rest := []) ⟨hx, hb, hml, hown, hts⟩ (metX0_isIn l G h x2.toInt64 (lI 0) (lI 1) ev3) (va_cwS 3 hts (lw_S q114 q115 q85 q116) rfl rfl rfl hsX0_isIn ⟨Nat.le_of_ble_eq_true rfl, Nat.le_of_ble_eq_true rfl⟩) (ep_preS hK hZ hw) rfl rfl hl.1 rfl (lv_room (Nat.le_of_ble_eq_true rfl)) dX0_listen_12 ⟨Nat.le_of_ble_eq_true rfl, Nat.le_of_ble_eq_true rfl⟩) hw (fun H locs hw => ?_)
    refine lv_if_ne (tgt := 20) hx hb dX0_listen_15 (by decide) (fun c4 => ?_) (fun c4 => ?_)
    · have hf := oi_f hf c4
      refine lv_ldcw (v := (1000000 : Int32)) hx hb hown (hts _ q805) dX0_listen_20 ?_
      refine lv_istore_n (lv' := [(3, .int (1000000 : Int32)), (0, .ref a0), (1, .int x1), (2, .int x2)]) hx hb dX0_listen_23 rfl hl (by decide) rfl (fun ls hl => ?_)
      refine lv_bipush (v := iI (-4)) hx hb dX0_listen_24 (by decide) ?_
      refine lv_istore (lv' := [(4, .int (iI (-4))), (3, .int (1000000 : Int32)), (0, .ref a0), (1, .int x1), (2, .int x2)]) hx hb dX0_listen_26 hl (by decide) rfl (fun ls hl => ?_)
      refine lv_iconst (v := iI 0) hx hb dX0_listen_28 rfl ?_
      refine lv_istore (lv' := [(5, .int (iI 0)), (4, .int (iI (-4))), (3, .int (1000000 : Int32)), (0, .ref a0), (1, .int x1), (2, .int x2)]) hx hb dX0_listen_29 hl (by decide) rfl (fun ls hl => ?_)
      obtain ⟨o5, ho5, hf⟩ := ob_s hf
      have hJ5 : ∀ (H : Heap) (locs : List Loc) (ls : Array Slot), ep_W G ep_cl o5.1 s H locs → lv_has ls 8 [(2, .int x2), (3, .int o5.2.1), (4, .int o5.2.2)] → wX0_listen p l e s m below meth c G h a0 x1 x2 res 0 0 H locs (F0 m 133 ls []) := by
        intro H locs ls hw hl
        refine lv_iload hx hb dX0_listen_133 (lv_at hl 2 rfl) ?_
        refine lv_bipush (v := iI (-4)) hx hb dX0_listen_135 (by decide) ?_
        refine lv_icmp_eq (tgt := 144) hx hb dX0_listen_137 (by decide) (fun c22 => ?_) (fun c22 => ?_)
        · have hf := oi_t hf c22
          refine lv_iload hx hb dX0_listen_144 (lv_at hl 2 rfl) ?_
          refine lv_goto (tgt := 150) hx hb dX0_listen_146 (by decide) ?_
          exact ep_retiW hx hb hr hlocks hw hf dX0_listen_150
        · have hf := oi_f hf c22
          refine lv_iload_n hx hb dX0_listen_140 rfl (lv_at hl 0 rfl) ?_
          refine lv_if_ne (tgt := 149) hx hb dX0_listen_141 (by decide) (fun c23 => ?_) (fun c23 => ?_)
          · have hf := oi_f hf c23
            refine lv_iload_n hx hb dX0_listen_149 rfl (lv_at hl 1 rfl) ?_
            exact ep_retiW hx hb hr hlocks hw hf dX0_listen_150
          · have hf := oi_t hf c23
            refine lv_iload hx hb dX0_listen_144 (lv_at hl 2 rfl) ?_
            refine lv_goto (tgt := 150) hx hb dX0_listen_146 (by decide) ?_
            exact ep_retiW hx hb hr hlocks hw hf dX0_listen_150
      have hL5 : ∀ (fu : Nat) (h : Hp) (x3 : Int32) (x4 : Int32) (x5 : Int32), fX0_listen_L31 a0 x1 x2 fu h x3 x4 x5 = some o5 → ∀ (H : Heap) (locs : List Loc) (ls : Array Slot), ep_W G ep_cl h s H locs → lv_has ls 8 [(0, .ref a0), (1, .int x1), (2, .int x2), (3, .int x3), (4, .int x4), (5, .int x5)] → wX0_listen p l e s m below meth c G h a0 x1 x2 res 0 0 H locs (F0 m 31 ls []) := by
        intro fu
        induction fu with
        | zero => intro h x3 x4 x5 ho5; cases ho5
        | succ fu ih5 =>
          intro h x3 x4 x5 ho5 H locs ls hw hl
          rw [fX0_listen_L31] at ho5
          refine lv_iload hx hb dX0_listen_31 (lv_at hl 5 rfl) ?_
          refine lv_bipush (v := iI 30) hx hb dX0_listen_33 (by decide) ?_
          refine lv_icmp_gt (tgt := 133) hx hb dX0_listen_35 (by decide) (fun c6 => ?_) (fun c6 => ?_)
          · have ho5 := oi_t ho5 c6
            obtain rfl := Option.some.inj ho5
            exact hJ5 _ _ _ hw (lv_sub hl [2, 3, 4] rfl)
          · have ho5 := oi_f ho5 c6
            refine lv_aload_n hx hb dX0_listen_38 rfl (lv_at hl 0 rfl) ?_
            refine lv_bipush (v := iI (-4)) hx hb dX0_listen_39 (by decide) ?_
            refine lv_iload_n hx hb dX0_listen_41 rfl (lv_at hl 1 rfl) ?_
            refine lv_iload hx hb dX0_listen_42 (lv_at hl 5 rfl) ?_
            obtain ⟨o7, eo7, ho5⟩ := ob_s ho5
            refine ep_callv0 (va_runV (As := [.int (iI (-4)), .int x1, .int x5]) (rest := []) ⟨hx, hb, hml, hown, hts⟩ (metX0_allWays l G h a0 (iI (-4)) x1 x5 eo7) (cwV 3 hts (lw_V q785 q787 qs27 q85 q788) rfl rfl rfl hdX0_allWays ⟨Nat.le_of_ble_eq_true rfl, Nat.le_of_ble_eq_true rfl⟩) (ep_preV hK hZ hw rfl (ckX0_allWays eo7)) rfl rfl hl.1 rfl (lv_room (Nat.le_of_ble_eq_true rfl)) dX0_listen_44 ⟨Nat.le_of_ble_eq_true rfl, Nat.le_of_ble_eq_true rfl⟩) hw (fun H locs hw => ?_)
            refine lv_iconst (v := iI 0) hx hb dX0_listen_47 rfl ?_
            refine lv_istore (lv' := [(6, .int (iI 0)), (0, .ref a0), (1, .int x1), (2, .int x2), (3, .int x3), (4, .int x4), (5, .int x5)]) hx hb dX0_listen_48 hl (by decide) rfl (fun ls hl => ?_)
            refine lv_iconst (v := iI 0) hx hb dX0_listen_50 rfl ?_
            refine lv_istore (lv' := [(7, .int (iI 0)), (6, .int (iI 0)), (0, .ref a0), (1, .int x1), (2, .int x2), (3, .int x3), (4, .int x4), (5, .int x5)]) hx hb dX0_listen_51 hl (by decide) rfl (fun ls hl => ?_)
            obtain ⟨o8, ho8, ho5⟩ := ob_s ho5
            have hJ8 : ∀ (H : Heap) (locs : List Loc) (ls : Array Slot), ep_W G ep_cl o7 s H locs → lv_has ls 8 [(0, .ref a0), (1, .int x1), (2, .int x2), (3, .int x3), (4, .int x4), (5, .int x5), (6, .int o8)] → wX0_listen p l e s m below meth c G h a0 x1 x2 res 0 0 H locs (F0 m 79 ls []) := by
              intro H locs ls hw hl
              refine lv_iload hx hb dX0_listen_79 (lv_at hl 6 rfl) ?_
              refine lv_aload_n hx hb dX0_listen_81 rfl (lv_at hl 0 rfl) ?_
              obtain ⟨v12, ev12, ho5⟩ := ob_s ho5
              refine ep_get (C := RX0) (T := TX0) (N := 25) (ci := 0) hx hb hts in_X0 hown hK hw rfl 14 (by decide) q941 (gI_f ev12) dX0_listen_82 ?_
              have hJ13 : wX0_listen p l e s m below meth c G h a0 x1 x2 res 0 0 H locs (F0 m 99 ls [.int (if v12 ≤ o8 then iI 0 else (if x3 ≤ o8 then iI 0 else iI 1))]) := by
                refine lv_istore (lv' := [(7, .int (if v12 ≤ o8 then iI 0 else (if x3 ≤ o8 then iI 0 else iI 1))), (0, .ref a0), (1, .int x1), (2, .int x2), (3, .int x3), (4, .int x4), (5, .int x5), (6, .int o8)]) hx hb dX0_listen_99 hl (by decide) rfl (fun ls hl => ?_)
                refine lv_iload hx hb dX0_listen_101 (lv_at hl 0 rfl) ?_
                have hJ16 : wX0_listen p l e s m below meth c G h a0 x1 x2 res 0 0 H locs (F0 m 113 ls [.int (if (if v12 ≤ o8 then iI 0 else (if x3 ≤ o8 then iI 0 else iI 1)) = 0 then x4 else x5)]) := by
                  refine lv_topi (fun x_18 ex_18 => ?_)
                  have ho5 := nmI_s ho5 x_18 ex_18
                  refine lv_istore (lv' := [(4, .int x_18), (7, .int (if v12 ≤ o8 then iI 0 else (if x3 ≤ o8 then iI 0 else iI 1))), (0, .ref a0), (1, .int x1), (2, .int x2), (3, .int x3), (5, .int x5), (6, .int o8)]) hx hb dX0_listen_113 hl (by decide) rfl (fun ls hl => ?_)
                  refine lv_iload hx hb dX0_listen_115 (lv_at hl 1 rfl) ?_
                  have hJ19 : wX0_listen p l e s m below meth c G h a0 x1 x2 res 0 0 H locs (F0 m 126 ls [.int (if (if v12 ≤ o8 then iI 0 else (if x3 ≤ o8 then iI 0 else iI 1)) = 0 then x3 else o8)]) := by
                    refine lv_topi (fun x_21 ex_21 => ?_)
                    have ho5 := nmI_s ho5 x_21 ex_21
                    refine lv_istore_n (lv' := [(3, .int x_21), (4, .int x_18), (7, .int (if v12 ≤ o8 then iI 0 else (if x3 ≤ o8 then iI 0 else iI 1))), (0, .ref a0), (1, .int x1), (2, .int x2), (5, .int x5), (6, .int o8)]) hx hb dX0_listen_126 rfl hl (by decide) rfl (fun ls hl => ?_)
                    refine lv_iinc (v := (x5 + iI 1)) (lv' := [(5, .int (x5 + iI 1)), (3, .int x_21), (4, .int x_18), (7, .int (if v12 ≤ o8 then iI 0 else (if x3 ≤ o8 then iI 0 else iI 1))), (0, .ref a0), (1, .int x1), (2, .int x2), (6, .int o8)]) hx hb dX0_listen_127 hl (k := 6) rfl rfl (by decide) rfl (fun ls hl => ?_)
                    refine lv_goto (tgt := 31) hx hb dX0_listen_130 (by decide) ?_
                    exact ih5 _ _ _ _ ho5 _ _ _ hw (lv_sub hl [4, 5, 6, 1, 2, 0] rfl)
                  refine lv_if_eq (tgt := 125) hx hb dX0_listen_117 (by decide) (fun c20 => ?_) (fun c20 => ?_)
                  · refine lv_iload_n hx hb dX0_listen_125 rfl (lv_at hl 5 rfl) ?_
                    rw [if_pos c20] at hJ19
                    exact hJ19
                  · refine lv_iload hx hb dX0_listen_120 (lv_at hl 7 rfl) ?_
                    refine lv_goto (tgt := 126) hx hb dX0_listen_122 (by decide) ?_
                    rw [if_neg c20] at hJ19
                    exact hJ19
                refine lv_if_eq (tgt := 111) hx hb dX0_listen_103 (by decide) (fun c17 => ?_) (fun c17 => ?_)
                · refine lv_iload hx hb dX0_listen_111 (lv_at hl 5 rfl) ?_
                  rw [if_pos c17] at hJ16
                  exact hJ16
                · refine lv_iload hx hb dX0_listen_106 (lv_at hl 6 rfl) ?_
                  refine lv_goto (tgt := 113) hx hb dX0_listen_108 (by decide) ?_
                  rw [if_neg c17] at hJ16
                  exact hJ16
              refine lv_icmp_ge (tgt := 98) hx hb dX0_listen_85 (by decide) (fun c14 => ?_) (fun c14 => ?_)
              · refine lv_iconst (v := iI 0) hx hb dX0_listen_98 rfl ?_
                rw [if_pos c14] at hJ13
                exact hJ13
              · refine lv_iload hx hb dX0_listen_88 (lv_at hl 6 rfl) ?_
                refine lv_iload_n hx hb dX0_listen_90 rfl (lv_at hl 3 rfl) ?_
                refine lv_icmp_ge (tgt := 98) hx hb dX0_listen_91 (by decide) (fun c15 => ?_) (fun c15 => ?_)
                · refine lv_iconst (v := iI 0) hx hb dX0_listen_98 rfl ?_
                  rw [if_neg c14, if_pos c15] at hJ13
                  exact hJ13
                · refine lv_iconst (v := iI 1) hx hb dX0_listen_94 rfl ?_
                  refine lv_goto (tgt := 99) hx hb dX0_listen_95 (by decide) ?_
                  rw [if_neg c14, if_neg c15] at hJ13
                  exact hJ13
            have hL8 : ∀ (fu : Nat) (x6 : Int32) (x7 : Int32), fX0_listen_L53 o7 a0 x1 x2 x3 x4 x5 fu x6 x7 = some o8 → ∀ (H : Heap) (locs : List Loc) (ls : Array Slot), ep_W G ep_cl o7 s H locs → lv_has ls 8 [(0, .ref a0), (1, .int x1), (2, .int x2), (3, .int x3), (4, .int x4), (5, .int x5), (6, .int x6), (7, .int x7)] → wX0_listen p l e s m below meth c G h a0 x1 x2 res 0 0 H locs (F0 m 53 ls []) := by
              intro fu
              induction fu with
              | zero => intro x6 x7 ho8; cases ho8
              | succ fu ih8 =>
                intro x6 x7 ho8 H locs ls hw hl
                rw [fX0_listen_L53] at ho8
                refine lv_iload hx hb dX0_listen_53 (lv_at hl 7 rfl) ?_
                refine lv_iconst (v := iI 5) hx hb dX0_listen_55 rfl ?_
                refine lv_icmp_gt (tgt := 79) hx hb dX0_listen_56 (by decide) (fun c9 => ?_) (fun c9 => ?_)
                · have ho8 := oi_t ho8 c9
                  obtain rfl := Option.some.inj ho8
                  exact hJ8 _ _ _ hw (lv_sub hl [0, 1, 2, 3, 4, 5, 6] rfl)
                · have ho8 := oi_f ho8 c9
                  refine lv_iload hx hb dX0_listen_59 (lv_at hl 6 rfl) ?_
                  refine lv_aload_n hx hb dX0_listen_61 rfl (lv_at hl 0 rfl) ?_
                  obtain ⟨r10, er10, ho8⟩ := ob_s ho8
                  refine ep_get (C := RX0) (T := TX0) (N := 25) (ci := 0) hx hb hts in_X0 hown hK hw rfl 16 (by decide) q943 (gR_f er10) dX0_listen_62 ?_
                  refine lv_iload hx hb dX0_listen_65 (lv_at hl 7 rfl) ?_
                  obtain ⟨v11, ev11, ho8⟩ := ob_s ho8
                  refine ep_iald hx hb hK hw ev11 dX0_listen_67 ?_
                  refine va_mmax hx hb (hml.trans hl.1.symm) hown (hts _ q759) (hts _ q430) (hts _ q100) (hts _ q431) (Nat.le_of_ble_eq_true rfl) (Nat.le_of_ble_eq_true rfl) (Nat.le_of_ble_eq_true rfl) (Nat.le_of_ble_eq_true rfl) dX0_listen_68 ?_
                  refine lv_istore (lv' := [(6, .int (if x6 < v11 then v11 else x6)), (0, .ref a0), (1, .int x1), (2, .int x2), (3, .int x3), (4, .int x4), (5, .int x5), (7, .int x7)]) hx hb dX0_listen_71 hl (by decide) rfl (fun ls hl => ?_)
                  refine lv_iinc (v := (x7 + iI 1)) (lv' := [(7, .int (x7 + iI 1)), (6, .int (if x6 < v11 then v11 else x6)), (0, .ref a0), (1, .int x1), (2, .int x2), (3, .int x3), (4, .int x4), (5, .int x5)]) hx hb dX0_listen_73 hl (k := 7) rfl rfl (by decide) rfl (fun ls hl => ?_)
                  refine lv_goto (tgt := 53) hx hb dX0_listen_76 (by decide) ?_
                  exact ih8 _ _ ho8 _ _ _ hw (lv_sub hl [2, 3, 4, 5, 6, 7, 1, 0] rfl)
            exact hL8 FUEL _ _ ho8 _ _ _ hw (lv_sub hl [2, 3, 4, 5, 6, 7, 1, 0] rfl)
      exact hL5 FUEL _ _ _ _ ho5 _ _ _ hw (lv_sub hl [3, 4, 5, 2, 1, 0] rfl)
    · have hf := oi_t hf c4
      refine lv_iconst (v := iI (-1)) hx hb dX0_listen_18 rfl ?_
      exact ep_retiW hx hb hr hlocks hw hf dX0_listen_19
theorem hsX0_sum : yX0_sum.cls ≠ "java/lang/invoke/MethodHandle" ∧ yX0_sum.cls ≠ "java/lang/invoke/VarHandle" ∧ (parseMethodDescriptor yX0_sum.desc).map (fun d => d.parameters.length) = some 2 := by decide +kernel
abbrev wX0_sum (p : Program) (l : Launch) (e : Env) (s : State) (m : MethodId) (below : List Frame) (meth : Method) (c : Code) (G : EG) (h : Hp) (a0 : Nat) (x1 : Int32) (res : Int32) (k9 n9 : Nat) (H : Heap) (locs : List Loc) (g : JFrame) : Prop := W p l e (headSpec (ws_ yX0_sum cX0_sum 4 (some .int)) ({ frames := 1, cells := 0, slots := 0, locals := 21 } : Room)).room s m ([.ref a0, .int x1] : List Value).toArray below meth c H locs k9 n9 (MQ below (ep_Qi G ep_cl h res) ([.ref a0, .int x1] : List Value).toArray s 0 0 (ep_A G)) g
set_option maxHeartbeats 4000000 in
theorem metX0_sum (l : Launch) (G : EG) (h : Hp) (a0 : Nat) (x1 : Int32) {res : Int32} (hf : fX0_sum h a0 x1 = some res) : Met l yX0_sum (ws_ yX0_sum cX0_sum 4 (some .int)) ({ frames := 1, cells := 0, slots := 0, locals := 21 } : Room) (ep_Pc G ep_cl h [.ref a0, .int x1]) (ep_Qi G ep_cl h res) 0 0 (ep_A G) := by
  refine Met.ofW (cc := cX0_sum) (maxL := 4) (ret := (some .int)) (by decide) rfl ?_
  intro p e s m args below meth c s₁ B hml hv
  obtain ⟨rfl, hR, hK, hZ⟩ := hv
  have hx := B.exec
  have hb := B.bytes
  have hr := B.returns
  have hlocks := B.notSynchronized
  have hts := atoms_spec (ws := (ws_ yX0_sum cX0_sum 4 (some .int))) B.pre
  have hts : ∀ w ∈ lw_all, w.before _ s = true := fun w h => hts w (List.mem_cons_of_mem _ h)
  have hown : s.vm.findClass RX0 = some m.cls := findClass_of_methodNamed B.named
  have hw : ep_W G ep_cl h s s.heap [] := ⟨hR, va_S.rf⟩
  have hl := lv_entry ([.ref a0, .int x1]) (n := 4) (Nat.le_of_ble_eq_true rfl)
  rw [lg_entry_eq]
  generalize (lg_sl ([.ref a0, .int x1]) ++ List.replicate (4 - (lg_sl ([.ref a0, .int x1])).length) Slot.unset).toArray = ls at hl ⊢
  have hl : lv_has ls 4 [(0, .ref a0), (1, .int x1)] := hl
  unfold fX0_sum at hf
  show wX0_sum p l e s m below meth c G h a0 x1 res 0 0 s.heap ([]) (F0 m 0 ls [])
  refine lv_iconst (v := iI 0) hx hb dX0_sum_0 rfl ?_
  refine lv_istore_n (lv' := [(2, .int (iI 0)), (0, .ref a0), (1, .int x1)]) hx hb dX0_sum_1 rfl hl (by decide) rfl (fun ls hl => ?_)
  refine lv_iconst (v := iI 0) hx hb dX0_sum_2 rfl ?_
  refine lv_istore_n (lv' := [(3, .int (iI 0)), (2, .int (iI 0)), (0, .ref a0), (1, .int x1)]) hx hb dX0_sum_3 rfl hl (by decide) rfl (fun ls hl => ?_)
  obtain ⟨o1, ho1, hf⟩ := ob_s hf
  have hJ1 : ∀ (H : Heap) (locs : List Loc) (ls : Array Slot), ep_W G ep_cl h s H locs → lv_has ls 4 [(2, .int o1)] → wX0_sum p l e s m below meth c G h a0 x1 res 0 0 H locs (F0 m 52 ls []) := by
    intro H locs ls hw hl
    refine lv_iload_n hx hb dX0_sum_52 rfl (lv_at hl 0 rfl) ?_
    exact ep_retiR hx hb hr hlocks hw hf dX0_sum_53
  have hL1 : ∀ (fu : Nat) (x2 : Int32) (x3 : Int32), fX0_sum_L4 h a0 x1 fu x2 x3 = some o1 → ∀ (H : Heap) (locs : List Loc) (ls : Array Slot), ep_W G ep_cl h s H locs → lv_has ls 4 [(0, .ref a0), (1, .int x1), (2, .int x2), (3, .int x3)] → wX0_sum p l e s m below meth c G h a0 x1 res 0 0 H locs (F0 m 4 ls []) := by
    intro fu
    induction fu with
    | zero => intro x2 x3 ho1; cases ho1
    | succ fu ih1 =>
      intro x2 x3 ho1 H locs ls hw hl
      rw [fX0_sum_L4] at ho1
      refine lv_iload_n hx hb dX0_sum_4 rfl (lv_at hl 3 rfl) ?_
      refine lv_aload_n hx hb dX0_sum_5 rfl (lv_at hl 0 rfl) ?_
      obtain ⟨v2, ev2, ho1⟩ := ob_s ho1
      refine ep_getN (C := RX1) (T := TX1) (N := 11) (ci := 1) hx hb hts in_X1 hown hK hw rfl 7 (by decide) q167 (gI_f ev2) dX0_sum_6 ?_
      refine lv_icmp_ge (tgt := 52) hx hb dX0_sum_9 (by decide) (fun c3 => ?_) (fun c3 => ?_)
      · have ho1 := oi_t ho1 c3
        obtain rfl := Option.some.inj ho1
        exact hJ1 _ _ _ hw (lv_sub hl [2] rfl)
      · have ho1 := oi_f ho1 c3
        refine lv_iload_n hx hb dX0_sum_12 rfl (lv_at hl 2 rfl) ?_
        refine lv_aload_n hx hb dX0_sum_13 rfl (lv_at hl 0 rfl) ?_
        refine lv_iload_n hx hb dX0_sum_14 rfl (lv_at hl 3 rfl) ?_
        obtain ⟨v4, ev4, ho1⟩ := ob_s ho1
        refine ep_calli0 (va_runV (As := [.int x3]) (rest := [.int x2]) ⟨hx, hb, hml, hown, hts⟩ (metX1_isSold l G h a0 x3 ev4) (cwV 1 hts (lw_V q655 q554 q555 q86 q556) rfl rfl rfl hdX1_isSold ⟨Nat.le_of_ble_eq_true rfl, Nat.le_of_ble_eq_true rfl⟩) (ep_preV hK hZ hw rfl (ckX1_isSold ev4)) rfl rfl hl.1 rfl (lv_room (Nat.le_of_ble_eq_true rfl)) dX0_sum_15 ⟨Nat.le_of_ble_eq_true rfl, Nat.le_of_ble_eq_true rfl⟩) hw (fun H locs hw => ?_)
        obtain ⟨o5, ho5, ho1⟩ := ob_s ho1
        have hJ5 : ∀ (H : Heap) (locs : List Loc) (ls : Array Slot), ep_W G ep_cl h s H locs → lv_has ls 4 [(0, .ref a0), (1, .int x1), (3, .int x3)] → wX0_sum p l e s m below meth c G h a0 x1 res 0 0 H locs (F0 m 44 ls [.int o5, .int x2]) := by
          intro H locs ls hw hl
          refine lv_iadd hx hb dX0_sum_44 ?_
          refine lv_istore_n (lv' := [(2, .int (x2 + o5)), (0, .ref a0), (1, .int x1), (3, .int x3)]) hx hb dX0_sum_45 rfl hl (by decide) rfl (fun ls hl => ?_)
          refine lv_iinc (v := (x3 + iI 1)) (lv' := [(3, .int (x3 + iI 1)), (2, .int (x2 + o5)), (0, .ref a0), (1, .int x1)]) hx hb dX0_sum_46 hl (k := 3) rfl rfl (by decide) rfl (fun ls hl => ?_)
          refine lv_goto (tgt := 4) hx hb dX0_sum_49 (by decide) ?_
          exact ih1 _ _ ho1 _ _ _ hw (lv_sub hl [2, 3, 1, 0] rfl)
        refine lv_if_eq (tgt := 25) hx hb dX0_sum_18 (by decide) (fun c6 => ?_) (fun c6 => ?_)
        · have ho5 := oi_t ho5 c6
          refine lv_iload_n hx hb dX0_sum_25 rfl (lv_at hl 1 rfl) ?_
          refine lv_if_eq (tgt := 38) hx hb dX0_sum_26 (by decide) (fun c7 => ?_) (fun c7 => ?_)
          · have ho5 := oi_t ho5 c7
            refine lv_aload_n hx hb dX0_sum_38 rfl (lv_at hl 0 rfl) ?_
            obtain ⟨r8, er8, ho5⟩ := ob_s ho5
            refine ep_getN (C := RX1) (T := TX1) (N := 11) (ci := 1) hx hb hts in_X1 hown hK hw rfl 4 (by decide) q159 (gR_f er8) dX0_sum_39 ?_
            refine lv_iload_n hx hb dX0_sum_42 rfl (lv_at hl 3 rfl) ?_
            obtain ⟨v9, ev9, ho5⟩ := ob_s ho5
            refine ep_iald hx hb hK hw ev9 dX0_sum_43 ?_
            obtain rfl := Option.some.inj ho5
            exact hJ5 _ _ _ hw (lv_sub hl [0, 1, 3] rfl)
          · have ho5 := oi_f ho5 c7
            refine lv_aload_n hx hb dX0_sum_29 rfl (lv_at hl 0 rfl) ?_
            obtain ⟨r10, er10, ho5⟩ := ob_s ho5
            refine ep_getN (C := RX1) (T := TX1) (N := 11) (ci := 1) hx hb hts in_X1 hown hK hw rfl 5 (by decide) q162 (gR_f er10) dX0_sum_30 ?_
            refine lv_iload_n hx hb dX0_sum_33 rfl (lv_at hl 3 rfl) ?_
            obtain ⟨v11, ev11, ho5⟩ := ob_s ho5
            refine ep_iald hx hb hK hw ev11 dX0_sum_34 ?_
            refine lv_goto (tgt := 44) hx hb dX0_sum_35 (by decide) ?_
            obtain rfl := Option.some.inj ho5
            exact hJ5 _ _ _ hw (lv_sub hl [0, 1, 3] rfl)
        · have ho5 := oi_f ho5 c6
          refine lv_iconst (v := iI 0) hx hb dX0_sum_21 rfl ?_
          refine lv_goto (tgt := 44) hx hb dX0_sum_22 (by decide) ?_
          obtain rfl := Option.some.inj ho5
          exact hJ5 _ _ _ hw (lv_sub hl [0, 1, 3] rfl)
  exact hL1 FUEL _ _ ho1 _ _ _ hw (lv_sub hl [2, 3, 1, 0] rfl)
theorem hdX0_drift : yX0_drift.cls = RX0 ∧ yX0_drift.cls ≠ "java/lang/invoke/MethodHandle" ∧ yX0_drift.cls ≠ "java/lang/invoke/VarHandle" ∧ (parseMethodDescriptor yX0_drift.desc).map (fun d => d.parameters.length) = some 3 := by decide +kernel
theorem ckX0_drift {h : Hp} {a0 : Nat} {x1 : Int32} {x2 : Int32} {x3 : Int32} {res : Int32 × Hp} (hf : fX0_drift h a0 x1 x2 x3 = some res) : ep_cls h a0 = some 0 := by
  unfold fX0_drift at hf
  exact (oi_c hf).1
abbrev wX0_drift (p : Program) (l : Launch) (e : Env) (s : State) (m : MethodId) (below : List Frame) (meth : Method) (c : Code) (G : EG) (h : Hp) (a0 : Nat) (x1 : Int32) (x2 : Int32) (x3 : Int32) (res : Int32 × Hp) (k9 n9 : Nat) (H : Heap) (locs : List Loc) (g : JFrame) : Prop := W p l e (headSpec (ws_ yX0_drift cX0_drift 7 (some .int)) ({ frames := 6, cells := 0, slots := 0, locals := 166 } : Room)).room s m ([.ref a0, .int x1, .int x2, .int x3] : List Value).toArray below meth c H locs k9 n9 (MQ below (ep_Qi G ep_cl res.2 res.1) ([.ref a0, .int x1, .int x2, .int x3] : List Value).toArray s 0 0 (ep_A G)) g
set_option maxHeartbeats 4000000 in
theorem metX0_drift (l : Launch) (G : EG) (h : Hp) (a0 : Nat) (x1 : Int32) (x2 : Int32) (x3 : Int32) {res : Int32 × Hp} (hf : fX0_drift h a0 x1 x2 x3 = some res) : Met l yX0_drift (ws_ yX0_drift cX0_drift 7 (some .int)) ({ frames := 6, cells := 0, slots := 0, locals := 166 } : Room) (ep_Pc G ep_cl h [.ref a0, .int x1, .int x2, .int x3]) (ep_Qi G ep_cl res.2 res.1) 0 0 (ep_A G) := by
  refine Met.ofW (cc := cX0_drift) (maxL := 7) (ret := (some .int)) (by decide) rfl ?_
  intro p e s m args below meth c s₁ B hml hv
  obtain ⟨rfl, hR, hK, hZ⟩ := hv
  have hx := B.exec
  have hb := B.bytes
  have hr := B.returns
  have hlocks := B.notSynchronized
  have hts := atoms_spec (ws := (ws_ yX0_drift cX0_drift 7 (some .int))) B.pre
  have hts : ∀ w ∈ lw_all, w.before _ s = true := fun w h => hts w (List.mem_cons_of_mem _ h)
  have hown : s.vm.findClass RX0 = some m.cls := findClass_of_methodNamed B.named
  have hw : ep_W G ep_cl h s s.heap [] := ⟨hR, va_S.rf⟩
  have hl := lv_entry ([.ref a0, .int x1, .int x2, .int x3]) (n := 7) (Nat.le_of_ble_eq_true rfl)
  rw [lg_entry_eq]
  generalize (lg_sl ([.ref a0, .int x1, .int x2, .int x3]) ++ List.replicate (7 - (lg_sl ([.ref a0, .int x1, .int x2, .int x3])).length) Slot.unset).toArray = ls at hl ⊢
  have hl : lv_has ls 7 [(0, .ref a0), (1, .int x1), (2, .int x2), (3, .int x3)] := hl
  unfold fX0_drift at hf
  have hf := (oi_c hf).2
  show wX0_drift p l e s m below meth c G h a0 x1 x2 x3 res 0 0 s.heap ([]) (F0 m 0 ls [])
  refine lv_iload_n hx hb dX0_drift_0 rfl (lv_at hl 2 rfl) ?_
  refine lv_i2l (v := x2.toInt64) hx hb dX0_drift_1 rfl ?_
  refine lv_lconst (v := lI 1) hx hb dX0_drift_2 (by decide) ?_
  refine lv_ldc2 (v := (30 : Int64)) hx hb hown (hts _ q670) dX0_drift_3 ?_
  obtain ⟨v1, ev1, hf⟩ := ob_s hf
  refine ep_calli0 (va_runS (As := [.long x2.toInt64, .long (lI 1), .long (30 : Int64)]) (rest := []) ⟨hx, hb, hml, hown, hts⟩ (metX0_isIn l G h x2.toInt64 (lI 1) (30 : Int64) ev1) (va_cwS 3 hts (lw_S q114 q115 q85 q116) rfl rfl rfl hsX0_isIn ⟨Nat.le_of_ble_eq_true rfl, Nat.le_of_ble_eq_true rfl⟩) (ep_preS hK hZ hw) rfl rfl hl.1 rfl (lv_room (Nat.le_of_ble_eq_true rfl)) dX0_drift_6 ⟨Nat.le_of_ble_eq_true rfl, Nat.le_of_ble_eq_true rfl⟩) hw (fun H locs hw => ?_)
  refine lv_if_eq (tgt := 22) hx hb dX0_drift_9 (by decide) (fun c2 => ?_) (fun c2 => ?_)
  · have hf := oi_t hf c2
    refine lv_iconst (v := iI (-1)) hx hb dX0_drift_22 rfl ?_
    exact ep_retiW hx hb hr hlocks hw hf dX0_drift_23
  · have hf := oi_f hf c2
    refine lv_iload_n hx hb dX0_drift_12 rfl (lv_at hl 3 rfl) ?_
    refine lv_i2l (v := x3.toInt64) hx hb dX0_drift_13 rfl ?_
    refine lv_lconst (v := lI 0) hx hb dX0_drift_14 (by decide) ?_
    refine lv_lconst (v := lI 1) hx hb dX0_drift_15 (by decide) ?_
    obtain ⟨v3, ev3, hf⟩ := ob_s hf
    refine ep_calli0 (va_runS (As := [.long x3.toInt64, .long (lI 0), .long (lI 1)]) (rest := []) ⟨hx, hb, hml, hown, hts⟩ (metX0_isIn l G h x3.toInt64 (lI 0) (lI 1) ev3) (va_cwS 3 hts (lw_S q114 q115 q85 q116) rfl rfl rfl hsX0_isIn ⟨Nat.le_of_ble_eq_true rfl, Nat.le_of_ble_eq_true rfl⟩) (ep_preS hK hZ hw) rfl rfl hl.1 rfl (lv_room (Nat.le_of_ble_eq_true rfl)) dX0_drift_16 ⟨Nat.le_of_ble_eq_true rfl, Nat.le_of_ble_eq_true rfl⟩) hw (fun H locs hw => ?_)
    refine lv_if_ne (tgt := 24) hx hb dX0_drift_19 (by decide) (fun c4 => ?_) (fun c4 => ?_)
    · have hf := oi_f hf c4
      refine lv_aload_n hx hb dX0_drift_24 rfl (lv_at hl 0 rfl) ?_
      obtain ⟨r5, er5, hf⟩ := ob_s hf
      refine ep_get (C := RX0) (T := TX0) (N := 25) (ci := 0) hx hb hts in_X0 hown hK hw rfl 3 (by decide) q930 (gR_f er5) dX0_drift_25 ?_
      obtain ⟨v6, ev6, hf⟩ := ob_s hf
      refine ep_getN (C := RX1) (T := TX1) (N := 11) (ci := 1) hx hb hts in_X1 hown hK hw rfl 7 (by decide) q167 (gI_f ev6) dX0_drift_28 ?_
      refine lv_if_ne (tgt := 37) hx hb dX0_drift_31 (by decide) (fun c7 => ?_) (fun c7 => ?_)
      · have hf := oi_f hf c7
        refine lv_iload_n hx hb dX0_drift_37 rfl (lv_at hl 1 rfl) ?_
        refine lv_istore (lv' := [(4, .int x1), (0, .ref a0), (1, .int x1), (2, .int x2), (3, .int x3)]) hx hb dX0_drift_38 hl (by decide) rfl (fun ls hl => ?_)
        refine lv_aload_n hx hb dX0_drift_40 rfl (lv_at hl 1 rfl) ?_
        obtain ⟨r8, er8, hf⟩ := ob_s hf
        refine ep_get (C := RX0) (T := TX0) (N := 25) (ci := 0) hx hb hts in_X0 hown hK hw rfl 7 (by decide) q934 (gR_f er8) dX0_drift_41 ?_
        refine lv_aload_n hx hb dX0_drift_44 rfl (lv_at hl 1 rfl) ?_
        obtain ⟨r9, er9, hf⟩ := ob_s hf
        refine ep_get (C := RX0) (T := TX0) (N := 25) (ci := 0) hx hb hts in_X0 hown hK hw rfl 3 (by decide) q930 (gR_f er9) dX0_drift_45 ?_
        obtain ⟨o10, eo10, hf⟩ := ob_s hf
        refine ep_callv0 (va_runV (As := [.ref r9]) (rest := []) ⟨hx, hb, hml, hown, hts⟩ (metX1_takes l G h r8 r9 eo10) (cwV 1 hts (lw_V q535 q536 q537 q86 q538) rfl rfl rfl hdX1_takes ⟨Nat.le_of_ble_eq_true rfl, Nat.le_of_ble_eq_true rfl⟩) (ep_preV hK hZ hw rfl (ckX1_takes eo10)) rfl rfl hl.1 rfl (lv_room (Nat.le_of_ble_eq_true rfl)) dX0_drift_48 ⟨Nat.le_of_ble_eq_true rfl, Nat.le_of_ble_eq_true rfl⟩) hw (fun H locs hw => ?_)
        refine lv_iconst (v := iI 0) hx hb dX0_drift_51 rfl ?_
        refine lv_istore (lv' := [(5, .int (iI 0)), (4, .int x1), (0, .ref a0), (1, .int x1), (2, .int x2), (3, .int x3)]) hx hb dX0_drift_52 hl (by decide) rfl (fun ls hl => ?_)
        obtain ⟨o11, ho11, hf⟩ := ob_s hf
        have hJ11 : ∀ (H : Heap) (locs : List Loc) (ls : Array Slot), ep_W G ep_cl o11 s H locs → lv_has ls 7 [(0, .ref a0), (3, .int x3)] → wX0_drift p l e s m below meth c G h a0 x1 x2 x3 res 0 0 H locs (F0 m 147 ls []) := by
          intro H locs ls hw hl
          refine lv_aload_n hx hb dX0_drift_147 rfl (lv_at hl 0 rfl) ?_
          obtain ⟨r30, er30, hf⟩ := ob_s hf
          refine ep_get (C := RX0) (T := TX0) (N := 25) (ci := 0) hx hb hts in_X0 hown hK hw rfl 7 (by decide) q934 (gR_f er30) dX0_drift_148 ?_
          refine lv_iload_n hx hb dX0_drift_151 rfl (lv_at hl 1 rfl) ?_
          have hJ31 : wX0_drift p l e s m below meth c G h a0 x1 x2 x3 res 0 0 H locs (F0 m 160 ls [.int (if x3 = 0 then iI 1 else iI 0), .ref r30]) := by
            obtain ⟨v33, ev33, hf⟩ := ob_s hf
            refine ep_calli0 (va_runS (As := [.ref r30, .int (if x3 = 0 then iI 1 else iI 0)]) (rest := []) ⟨hx, hb, hml, hown, hts⟩ (metX0_sum l G o11 r30 (if x3 = 0 then iI 1 else iI 0) ev33) (va_cwS 2 hts (lw_S q853 q854 q85 q855) rfl rfl rfl hsX0_sum ⟨Nat.le_of_ble_eq_true rfl, Nat.le_of_ble_eq_true rfl⟩) (ep_preS hK hZ hw) rfl rfl hl.1 rfl (lv_room (Nat.le_of_ble_eq_true rfl)) dX0_drift_160 ⟨Nat.le_of_ble_eq_true rfl, Nat.le_of_ble_eq_true rfl⟩) hw (fun H locs hw => ?_)
            exact ep_retiW hx hb hr hlocks hw hf dX0_drift_163
          refine lv_if_ne (tgt := 159) hx hb dX0_drift_152 (by decide) (fun c32 => ?_) (fun c32 => ?_)
          · refine lv_iconst (v := iI 0) hx hb dX0_drift_159 rfl ?_
            rw [if_neg c32] at hJ31
            exact hJ31
          · refine lv_iconst (v := iI 1) hx hb dX0_drift_155 rfl ?_
            refine lv_goto (tgt := 160) hx hb dX0_drift_156 (by decide) ?_
            rw [if_pos c32] at hJ31
            exact hJ31
        have hL11 : ∀ (fu : Nat) (h : Hp) (x4 : Int32) (x5 : Int32), fX0_drift_L54 a0 x2 x3 fu h x4 x5 = some o11 → ∀ (H : Heap) (locs : List Loc) (ls : Array Slot), ep_W G ep_cl h s H locs → lv_has ls 7 [(0, .ref a0), (2, .int x2), (3, .int x3), (4, .int x4), (5, .int x5)] → wX0_drift p l e s m below meth c G h a0 x1 x2 x3 res 0 0 H locs (F0 m 54 ls []) := by
          intro fu
          induction fu with
          | zero => intro h x4 x5 ho11; cases ho11
          | succ fu ih11 =>
            intro h x4 x5 ho11 H locs ls hw hl
            rw [fX0_drift_L54] at ho11
            refine lv_iload hx hb dX0_drift_54 (lv_at hl 4 rfl) ?_
            refine lv_iload_n hx hb dX0_drift_56 rfl (lv_at hl 1 rfl) ?_
            refine lv_icmp_ge (tgt := 147) hx hb dX0_drift_57 (by decide) (fun c12 => ?_) (fun c12 => ?_)
            · have ho11 := oi_t ho11 c12
              obtain rfl := Option.some.inj ho11
              exact hJ11 _ _ _ hw (lv_sub hl [0, 2] rfl)
            · have ho11 := oi_f ho11 c12
              refine lv_iload hx hb dX0_drift_60 (lv_at hl 3 rfl) ?_
              refine lv_ldcw (v := (1103515245 : Int32)) hx hb hown (hts _ q852) dX0_drift_62 ?_
              refine lv_imul hx hb dX0_drift_65 ?_
              refine lv_sipush (v := iI 12345) hx hb dX0_drift_66 (by decide) ?_
              refine lv_iadd hx hb dX0_drift_69 ?_
              refine lv_istore (lv' := [(4, .int ((x4 * (1103515245 : Int32)) + (iI 12345))), (0, .ref a0), (2, .int x2), (3, .int x3), (5, .int x5)]) hx hb dX0_drift_70 hl (by decide) rfl (fun ls hl => ?_)
              refine lv_iload hx hb dX0_drift_72 (lv_at hl 0 rfl) ?_
              refine lv_bipush (v := iI 16) hx hb dX0_drift_74 (by decide) ?_
              refine lv_ishr hx hb dX0_drift_76 ?_
              refine lv_sipush (v := iI 32767) hx hb dX0_drift_77 (by decide) ?_
              refine lv_iand hx hb dX0_drift_80 ?_
              refine lv_aload_n hx hb dX0_drift_81 rfl (lv_at hl 1 rfl) ?_
              obtain ⟨r13, er13, ho11⟩ := ob_s ho11
              refine ep_get (C := RX0) (T := TX0) (N := 25) (ci := 0) hx hb hts in_X0 hown hK hw rfl 3 (by decide) q930 (gR_f er13) dX0_drift_82 ?_
              obtain ⟨v14, ev14, ho11⟩ := ob_s ho11
              refine ep_getN (C := RX1) (T := TX1) (N := 11) (ci := 1) hx hb hts in_X1 hown hK hw rfl 7 (by decide) q167 (gI_f ev14) dX0_drift_85 ?_
              obtain ⟨v15, ev15, ho11⟩ := ob_s ho11
              refine ep_irem hx hb ev15 dX0_drift_88 ?_
              refine lv_istore (lv' := [(6, .int v15), (4, .int ((x4 * (1103515245 : Int32)) + (iI 12345))), (0, .ref a0), (2, .int x2), (3, .int x3), (5, .int x5)]) hx hb dX0_drift_89 hl (by decide) rfl (fun ls hl => ?_)
              refine lv_aload_n hx hb dX0_drift_91 rfl (lv_at hl 2 rfl) ?_
              obtain ⟨r16, er16, ho11⟩ := ob_s ho11
              refine ep_get (C := RX0) (T := TX0) (N := 25) (ci := 0) hx hb hts in_X0 hown hK hw rfl 7 (by decide) q934 (gR_f er16) dX0_drift_92 ?_
              obtain ⟨r17, er17, ho11⟩ := ob_s ho11
              refine ep_getN (C := RX1) (T := TX1) (N := 11) (ci := 1) hx hb hts in_X1 hown hK hw rfl 4 (by decide) q159 (gR_f er17) dX0_drift_95 ?_
              refine lv_iload hx hb dX0_drift_98 (lv_at hl 0 rfl) ?_
              refine lv_dup2_11 hx hb dX0_drift_100 rfl rfl ?_
              obtain ⟨v18, ev18, ho11⟩ := ob_s ho11
              refine ep_iald hx hb hK hw ev18 dX0_drift_101 ?_
              refine lv_aload_n hx hb dX0_drift_102 rfl (lv_at hl 2 rfl) ?_
              obtain ⟨r19, er19, ho11⟩ := ob_s ho11
              refine ep_get (C := RX0) (T := TX0) (N := 25) (ci := 0) hx hb hts in_X0 hown hK hw rfl 7 (by decide) q934 (gR_f er19) dX0_drift_103 ?_
              refine lv_iload hx hb dX0_drift_106 (lv_at hl 0 rfl) ?_
              obtain ⟨v20, ev20, ho11⟩ := ob_s ho11
              refine ep_calli0 (va_runV (As := [.int v15]) (rest := [.int v18, .int v15, .ref r17]) ⟨hx, hb, hml, hown, hts⟩ (metX1_isSold l G h r19 v15 ev20) (cwV 1 hts (lw_V q655 q554 q555 q86 q556) rfl rfl rfl hdX1_isSold ⟨Nat.le_of_ble_eq_true rfl, Nat.le_of_ble_eq_true rfl⟩) (ep_preV hK hZ hw rfl (ckX1_isSold ev20)) rfl rfl hl.1 rfl (lv_room (Nat.le_of_ble_eq_true rfl)) dX0_drift_108 ⟨Nat.le_of_ble_eq_true rfl, Nat.le_of_ble_eq_true rfl⟩) hw (fun H locs hw => ?_)
              obtain ⟨o21, ho21, ho11⟩ := ob_s ho11
              have hJ21 : ∀ (H : Heap) (locs : List Loc) (ls : Array Slot), ep_W G ep_cl h s H locs → lv_has ls 7 [(0, .ref a0), (2, .int x2), (3, .int x3), (4, .int ((x4 * (1103515245 : Int32)) + (iI 12345))), (5, .int x5)] → wX0_drift p l e s m below meth c G h a0 x1 x2 x3 res 0 0 H locs (F0 m 132 ls [.int o21, .int v18, .int v15, .ref r17]) := by
                intro H locs ls hw hl
                refine lv_isub hx hb dX0_drift_132 ?_
                obtain ⟨h27, eh27, ho11⟩ := ob_s ho11
                refine ep_iast hx hb hK hw eh27 dX0_drift_133 (fun H locs hw => ?_)
                refine lv_aload_n hx hb dX0_drift_134 rfl (lv_at hl 0 rfl) ?_
                obtain ⟨r28, er28, ho11⟩ := ob_s ho11
                refine ep_get (C := RX0) (T := TX0) (N := 25) (ci := 0) hx hb hts in_X0 hown hK hw rfl 7 (by decide) q934 (gR_f er28) dX0_drift_135 ?_
                obtain ⟨o29, eo29, ho11⟩ := ob_s ho11
                refine ep_callv0 (va_runV (As := []) (rest := []) ⟨hx, hb, hml, hown, hts⟩ (metX1_week l G h27 r28 eo29) (cwV 0 hts (lw_V q675 q676 q677 q86 q678) rfl rfl rfl hdX1_week ⟨Nat.le_of_ble_eq_true rfl, Nat.le_of_ble_eq_true rfl⟩) (ep_preV hK hZ hw rfl (ckX1_week eo29)) rfl rfl hl.1 rfl (lv_room (Nat.le_of_ble_eq_true rfl)) dX0_drift_138 ⟨Nat.le_of_ble_eq_true rfl, Nat.le_of_ble_eq_true rfl⟩) hw (fun H locs hw => ?_)
                refine lv_iinc (v := (x5 + iI 1)) (lv' := [(5, .int (x5 + iI 1)), (0, .ref a0), (2, .int x2), (3, .int x3), (4, .int ((x4 * (1103515245 : Int32)) + (iI 12345)))]) hx hb dX0_drift_141 hl (k := 4) rfl rfl (by decide) rfl (fun ls hl => ?_)
                refine lv_goto (tgt := 54) hx hb dX0_drift_144 (by decide) ?_
                exact ih11 _ _ _ ho11 _ _ _ hw (lv_sub hl [1, 2, 3, 4, 0] rfl)
              refine lv_if_ne (tgt := 131) hx hb dX0_drift_111 (by decide) (fun c22 => ?_) (fun c22 => ?_)
              · have ho21 := oi_f ho21 c22
                refine lv_iconst (v := iI 0) hx hb dX0_drift_131 rfl ?_
                obtain rfl := Option.some.inj ho21
                exact hJ21 _ _ _ hw (lv_sub hl [2, 3, 4, 1, 5] rfl)
              · have ho21 := oi_t ho21 c22
                refine lv_aload_n hx hb dX0_drift_114 rfl (lv_at hl 2 rfl) ?_
                obtain ⟨r23, er23, ho21⟩ := ob_s ho21
                refine ep_get (C := RX0) (T := TX0) (N := 25) (ci := 0) hx hb hts in_X0 hown hK hw rfl 7 (by decide) q934 (gR_f er23) dX0_drift_115 ?_
                obtain ⟨r24, er24, ho21⟩ := ob_s ho21
                refine ep_getN (C := RX1) (T := TX1) (N := 11) (ci := 1) hx hb hts in_X1 hown hK hw rfl 4 (by decide) q159 (gR_f er24) dX0_drift_118 ?_
                refine lv_iload hx hb dX0_drift_121 (lv_at hl 0 rfl) ?_
                obtain ⟨v25, ev25, ho21⟩ := ob_s ho21
                refine ep_iald hx hb hK hw ev25 dX0_drift_123 ?_
                refine lv_if_le (tgt := 131) hx hb dX0_drift_124 (by decide) (fun c26 => ?_) (fun c26 => ?_)
                · have ho21 := oi_t ho21 c26
                  refine lv_iconst (v := iI 0) hx hb dX0_drift_131 rfl ?_
                  obtain rfl := Option.some.inj ho21
                  exact hJ21 _ _ _ hw (lv_sub hl [2, 3, 4, 1, 5] rfl)
                · have ho21 := oi_f ho21 c26
                  refine lv_iconst (v := iI 1) hx hb dX0_drift_127 rfl ?_
                  refine lv_goto (tgt := 132) hx hb dX0_drift_128 (by decide) ?_
                  obtain rfl := Option.some.inj ho21
                  exact hJ21 _ _ _ hw (lv_sub hl [2, 3, 4, 1, 5] rfl)
        exact hL11 FUEL _ _ _ ho11 _ _ _ hw (lv_sub hl [2, 4, 5, 1, 0] rfl)
      · have hf := oi_t hf c7
        refine lv_bipush (v := iI (-2)) hx hb dX0_drift_34 (by decide) ?_
        exact ep_retiW hx hb hr hlocks hw hf dX0_drift_36
    · have hf := oi_t hf c4
      refine lv_iconst (v := iI (-1)) hx hb dX0_drift_22 rfl ?_
      exact ep_retiW hx hb hr hlocks hw hf dX0_drift_23
