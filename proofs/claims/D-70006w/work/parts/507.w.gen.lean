/-! walks (printed by gen.py) -/
set_option maxRecDepth 100000
theorem hdX4_readLine : yX4_readLine.cls = RX4 ∧ yX4_readLine.cls ≠ "java/lang/invoke/MethodHandle" ∧ yX4_readLine.cls ≠ "java/lang/invoke/VarHandle" ∧ (parseMethodDescriptor yX4_readLine.desc).map (fun d => d.parameters.length) = some 0 := by decide +kernel
theorem ckX4_readLine {h : Hp} {a0 : Nat} {res : Hp} (hf : fX4_readLine h a0 = some res) : ep_cls h a0 = some 4 := by
  unfold fX4_readLine at hf
  exact (oi_c hf).1
abbrev wX4_readLine (p : Program) (l : Launch) (e : Env) (s : State) (m : MethodId) (below : List Frame) (meth : Method) (c : Code) (G : EG) (h : Hp) (a0 : Nat) (res : Hp) (k9 n9 : Nat) (H : Heap) (locs : List Loc) (g : JFrame) : Prop := W p l e (headSpec (ws_ yX4_readLine cX4_readLine 2 none) ({ frames := 4, cells := 0, slots := 0, locals := 91 } : Room)).room s m ([.ref a0] : List Value).toArray below meth c H locs k9 n9 (MQ below (ep_Qv G ep_cl res) ([.ref a0] : List Value).toArray s 0 0 (ep_A G)) g
set_option maxHeartbeats 4000000 in
theorem metX4_readLine (l : Launch) (G : EG) (h : Hp) (a0 : Nat) {res : Hp} (hf : fX4_readLine h a0 = some res) : Met l yX4_readLine (ws_ yX4_readLine cX4_readLine 2 none) ({ frames := 4, cells := 0, slots := 0, locals := 91 } : Room) (ep_Pc G ep_cl h [.ref a0]) (ep_Qv G ep_cl res) 0 0 (ep_A G) := by
  refine Met.ofW (cc := cX4_readLine) (maxL := 2) (ret := none) (by decide) rfl ?_
  intro p e s m args below meth c s₁ B hml hv
  obtain ⟨rfl, hR, hK, hZ⟩ := hv
  have hx := B.exec
  have hb := B.bytes
  have hr := B.returns
  have hlocks := B.notSynchronized
  have hts := atoms_spec (ws := (ws_ yX4_readLine cX4_readLine 2 none)) B.pre
  have hts : ∀ w ∈ lw_all, w.before _ s = true := fun w h => hts w (List.mem_cons_of_mem _ h)
  have hown : s.vm.findClass RX4 = some m.cls := findClass_of_methodNamed B.named
  have hw : ep_W G ep_cl h s s.heap [] := ⟨hR, va_S.rf⟩
  have hl := lv_entry ([.ref a0]) (n := 2) (Nat.le_of_ble_eq_true rfl)
  rw [lg_entry_eq]
  generalize (lg_sl ([.ref a0]) ++ List.replicate (2 - (lg_sl ([.ref a0])).length) Slot.unset).toArray = ls at hl ⊢
  have hl : lv_has ls 2 [(0, .ref a0)] := hl
  unfold fX4_readLine at hf
  have hf := (oi_c hf).2
  show wX4_readLine p l e s m below meth c G h a0 res 0 0 s.heap ([]) (F0 m 0 ls [])
  refine lv_aload_n hx hb dX4_readLine_0 rfl (lv_at hl 0 rfl) ?_
  obtain ⟨v1, ev1, hf⟩ := ob_s hf
  refine ep_get (C := RX4) (T := TX4) (N := 32) (ci := 4) hx hb hts in_X4 hown hK hw rfl 17 (by decide) q1156 (gI_f ev1) dX4_readLine_1 ?_
  refine lv_iconst (v := iI 1) hx hb dX4_readLine_4 rfl ?_
  obtain ⟨o2, ho2, hf⟩ := ob_s hf
  have hJ2 : ∀ (H : Heap) (locs : List Loc) (ls : Array Slot), ep_W G ep_cl h s H locs → lv_has ls 2 [(0, .ref a0)] → wX4_readLine p l e s m below meth c G h a0 res 0 0 H locs (F0 m 17 ls [.int o2]) := by
    intro H locs ls hw hl
    refine lv_istore_n (lv' := [(1, .int o2), (0, .ref a0)]) hx hb dX4_readLine_17 rfl hl (by decide) rfl (fun ls hl => ?_)
    refine lv_aload_n hx hb dX4_readLine_18 rfl (lv_at hl 1 rfl) ?_
    refine lv_iload_n hx hb dX4_readLine_19 rfl (lv_at hl 0 rfl) ?_
    refine lv_bipush (v := iI (-4)) hx hb dX4_readLine_20 (by decide) ?_
    have hJ5 : wX4_readLine p l e s m below meth c G h a0 res 0 0 H locs (F0 m 30 ls [.int (if o2 = (iI (-4)) then iI 0 else iI 1), .ref a0]) := by
      refine lv_iconst (v := iI 2) hx hb dX4_readLine_30 rfl ?_
      obtain ⟨o7, eo7, hf⟩ := ob_s hf
      refine ep_callv0 (va_runV (As := [.int (if o2 = (iI (-4)) then iI 0 else iI 1), .int (iI 2)]) (rest := []) ⟨hx, hb, hml, hown, hts⟩ (metX4_needs l G h a0 (if o2 = (iI (-4)) then iI 0 else iI 1) (iI 2) eo7) (cwV 2 hts (lw_V q1265 q1267 qs38 q89 q1268) rfl rfl rfl hdX4_needs ⟨Nat.le_of_ble_eq_true rfl, Nat.le_of_ble_eq_true rfl⟩) (ep_preV hK hZ hw rfl (ckX4_needs eo7)) rfl rfl hl.1 rfl (lv_room (Nat.le_of_ble_eq_true rfl)) dX4_readLine_31 ⟨Nat.le_of_ble_eq_true rfl, Nat.le_of_ble_eq_true rfl⟩) hw (fun H locs hw => ?_)
      refine lv_aload_n hx hb dX4_readLine_34 rfl (lv_at hl 1 rfl) ?_
      refine lv_iload_n hx hb dX4_readLine_35 rfl (lv_at hl 0 rfl) ?_
      refine lv_iconst (v := iI 4) hx hb dX4_readLine_36 rfl ?_
      obtain ⟨o8, ho8, hf⟩ := ob_s hf
      have hJ8 : ∀ (H : Heap) (locs : List Loc) (ls : Array Slot), ep_W G ep_cl o7 s H locs → lv_has ls 2 [(0, .ref a0), (1, .int o2)] → wX4_readLine p l e s m below meth c G h a0 res 0 0 H locs (F0 m 90 ls [.int o8, .ref a0]) := by
        intro H locs ls hw hl
        refine lv_iconst (v := iI 5) hx hb dX4_readLine_90 rfl ?_
        obtain ⟨o17, eo17, hf⟩ := ob_s hf
        refine ep_callv0 (va_runV (As := [.int o8, .int (iI 5)]) (rest := []) ⟨hx, hb, hml, hown, hts⟩ (metX4_needs l G o7 a0 o8 (iI 5) eo17) (cwV 2 hts (lw_V q1265 q1267 qs38 q89 q1268) rfl rfl rfl hdX4_needs ⟨Nat.le_of_ble_eq_true rfl, Nat.le_of_ble_eq_true rfl⟩) (ep_preV hK hZ hw rfl (ckX4_needs eo17)) rfl rfl hl.1 rfl (lv_room (Nat.le_of_ble_eq_true rfl)) dX4_readLine_91 ⟨Nat.le_of_ble_eq_true rfl, Nat.le_of_ble_eq_true rfl⟩) hw (fun H locs hw => ?_)
        refine lv_aload_n hx hb dX4_readLine_94 rfl (lv_at hl 0 rfl) ?_
        obtain ⟨o18, eo18, hf⟩ := ob_s hf
        refine ep_callv0 (va_runV (As := []) (rest := []) ⟨hx, hb, hml, hown, hts⟩ (metX4_next l G o17 a0 eo18) (cwV 0 hts (lw_V q1253 q1255 qs36 q89 q1256) rfl rfl rfl hdX4_next ⟨Nat.le_of_ble_eq_true rfl, Nat.le_of_ble_eq_true rfl⟩) (ep_preV hK hZ hw rfl (ckX4_next eo18)) rfl rfl hl.1 rfl (lv_room (Nat.le_of_ble_eq_true rfl)) dX4_readLine_95 ⟨Nat.le_of_ble_eq_true rfl, Nat.le_of_ble_eq_true rfl⟩) hw (fun H locs hw => ?_)
        refine lv_aload_n hx hb dX4_readLine_98 rfl (lv_at hl 0 rfl) ?_
        obtain ⟨v19, ev19, hf⟩ := ob_s hf
        refine ep_get (C := RX4) (T := TX4) (N := 32) (ci := 4) hx hb hts in_X4 hown hK hw rfl 19 (by decide) q1158 (gI_f ev19) dX4_readLine_99 ?_
        refine lv_if_le (tgt := 106) hx hb dX4_readLine_102 (by decide) (fun c20 => ?_) (fun c20 => ?_)
        · have hf := oi_t hf c20
          refine lv_aload_n hx hb dX4_readLine_106 rfl (lv_at hl 0 rfl) ?_
          refine lv_iload_n hx hb dX4_readLine_107 rfl (lv_at hl 1 rfl) ?_
          obtain ⟨o21, eo21, hf⟩ := ob_s hf
          refine ep_callv0 (va_runV (As := [.int o2]) (rest := []) ⟨hx, hb, hml, hown, hts⟩ (metX4_readLineOf l G o18 a0 o2 eo21) (cwV 1 hts (lw_V q1285 q1287 qs43 q89 q1288) rfl rfl rfl hdX4_readLineOf ⟨Nat.le_of_ble_eq_true rfl, Nat.le_of_ble_eq_true rfl⟩) (ep_preV hK hZ hw rfl (ckX4_readLineOf eo21)) rfl rfl hl.1 rfl (lv_room (Nat.le_of_ble_eq_true rfl)) dX4_readLine_108 ⟨Nat.le_of_ble_eq_true rfl, Nat.le_of_ble_eq_true rfl⟩) hw (fun H locs hw => ?_)
          refine lv_aload_n hx hb dX4_readLine_111 rfl (lv_at hl 0 rfl) ?_
          obtain ⟨v22, ev22, hf⟩ := ob_s hf
          refine ep_get (C := RX4) (T := TX4) (N := 32) (ci := 4) hx hb hts in_X4 hown hK hw rfl 19 (by decide) q1158 (gI_f ev22) dX4_readLine_112 ?_
          obtain ⟨o23, ho23, hf⟩ := ob_s hf
          have hJ23 : ∀ (H : Heap) (locs : List Loc) (ls : Array Slot), ep_W G ep_cl o23 s H locs → lv_has ls 2 [(0, .ref a0)] → wX4_readLine p l e s m below meth c G h a0 res 0 0 H locs (F0 m 136 ls []) := by
            intro H locs ls hw hl
            refine lv_aload_n hx hb dX4_readLine_136 rfl (lv_at hl 0 rfl) ?_
            obtain ⟨o29, eo29, hf⟩ := ob_s hf
            refine ep_callv0 (va_runV (As := []) (rest := []) ⟨hx, hb, hml, hown, hts⟩ (metX4_next l G o23 a0 eo29) (cwV 0 hts (lw_V q1253 q1255 qs36 q89 q1256) rfl rfl rfl hdX4_next ⟨Nat.le_of_ble_eq_true rfl, Nat.le_of_ble_eq_true rfl⟩) (ep_preV hK hZ hw rfl (ckX4_next eo29)) rfl rfl hl.1 rfl (lv_room (Nat.le_of_ble_eq_true rfl)) dX4_readLine_137 ⟨Nat.le_of_ble_eq_true rfl, Nat.le_of_ble_eq_true rfl⟩) hw (fun H locs hw => ?_)
            exact ep_retvW hx hb hr hlocks hw hf dX4_readLine_140
          refine lv_if_ne (tgt := 136) hx hb dX4_readLine_115 (by decide) (fun c24 => ?_) (fun c24 => ?_)
          · have ho23 := oi_f ho23 c24
            obtain rfl := Option.some.inj ho23
            exact hJ23 _ _ _ hw (lv_sub hl [0] rfl)
          · have ho23 := oi_t ho23 c24
            refine lv_aload_n hx hb dX4_readLine_118 rfl (lv_at hl 0 rfl) ?_
            refine lv_aload_n hx hb dX4_readLine_119 rfl (lv_at hl 0 rfl) ?_
            obtain ⟨v25, ev25, ho23⟩ := ob_s ho23
            refine ep_get (C := RX4) (T := TX4) (N := 32) (ci := 4) hx hb hts in_X4 hown hK hw rfl 17 (by decide) q1156 (gI_f ev25) dX4_readLine_120 ?_
            refine lv_iconst (v := iI 3) hx hb dX4_readLine_123 rfl ?_
            have hJ26 : wX4_readLine p l e s m below meth c G h a0 res 0 0 H locs (F0 m 132 ls [.int (if v25 = (iI 3) then iI 1 else iI 0), .ref a0]) := by
              refine lv_iconst (v := iI 2) hx hb dX4_readLine_132 rfl ?_
              obtain ⟨o28, eo28, ho23⟩ := ob_s ho23
              refine ep_callv0 (va_runV (As := [.int (if v25 = (iI 3) then iI 1 else iI 0), .int (iI 2)]) (rest := []) ⟨hx, hb, hml, hown, hts⟩ (metX4_needs l G o21 a0 (if v25 = (iI 3) then iI 1 else iI 0) (iI 2) eo28) (cwV 2 hts (lw_V q1265 q1267 qs38 q89 q1268) rfl rfl rfl hdX4_needs ⟨Nat.le_of_ble_eq_true rfl, Nat.le_of_ble_eq_true rfl⟩) (ep_preV hK hZ hw rfl (ckX4_needs eo28)) rfl rfl hl.1 rfl (lv_room (Nat.le_of_ble_eq_true rfl)) dX4_readLine_133 ⟨Nat.le_of_ble_eq_true rfl, Nat.le_of_ble_eq_true rfl⟩) hw (fun H locs hw => ?_)
              obtain rfl := Option.some.inj ho23
              exact hJ23 _ _ _ hw (lv_sub hl [0] rfl)
            refine lv_icmp_ne (tgt := 131) hx hb dX4_readLine_124 (by decide) (fun c27 => ?_) (fun c27 => ?_)
            · refine lv_iconst (v := iI 0) hx hb dX4_readLine_131 rfl ?_
              rw [if_neg c27] at hJ26
              exact hJ26
            · refine lv_iconst (v := iI 1) hx hb dX4_readLine_127 rfl ?_
              refine lv_goto (tgt := 132) hx hb dX4_readLine_128 (by decide) ?_
              rw [if_pos c27] at hJ26
              exact hJ26
        · have hf := oi_f hf c20
          exact ep_retvW hx hb hr hlocks hw hf dX4_readLine_105
      refine lv_icmp_ne (tgt := 56) hx hb dX4_readLine_37 (by decide) (fun c9 => ?_) (fun c9 => ?_)
      · have ho8 := oi_f ho8 c9
        refine lv_iload_n hx hb dX4_readLine_56 rfl (lv_at hl 0 rfl) ?_
        refine lv_iconst (v := iI 5) hx hb dX4_readLine_57 rfl ?_
        refine lv_icmp_ne (tgt := 77) hx hb dX4_readLine_58 (by decide) (fun c10 => ?_) (fun c10 => ?_)
        · have ho8 := oi_f ho8 c10
          refine lv_aload_n hx hb dX4_readLine_77 rfl (lv_at hl 1 rfl) ?_
          obtain ⟨v11, ev11, ho8⟩ := ob_s ho8
          refine ep_get (C := RX4) (T := TX4) (N := 32) (ci := 4) hx hb hts in_X4 hown hK hw rfl 9 (by decide) q1148 (gI_f ev11) dX4_readLine_78 ?_
          refine lv_iconst (v := iI 5) hx hb dX4_readLine_81 rfl ?_
          refine lv_icmp_ge (tgt := 89) hx hb dX4_readLine_82 (by decide) (fun c12 => ?_) (fun c12 => ?_)
          · have ho8 := oi_t ho8 c12
            refine lv_iconst (v := iI 0) hx hb dX4_readLine_89 rfl ?_
            obtain rfl := Option.some.inj ho8
            exact hJ8 _ _ _ hw (lv_sub hl [1, 0] rfl)
          · have ho8 := oi_f ho8 c12
            refine lv_iconst (v := iI 1) hx hb dX4_readLine_85 rfl ?_
            refine lv_goto (tgt := 90) hx hb dX4_readLine_86 (by decide) ?_
            obtain rfl := Option.some.inj ho8
            exact hJ8 _ _ _ hw (lv_sub hl [1, 0] rfl)
        · have ho8 := oi_t ho8 c10
          refine lv_aload_n hx hb dX4_readLine_61 rfl (lv_at hl 1 rfl) ?_
          obtain ⟨v13, ev13, ho8⟩ := ob_s ho8
          refine ep_get (C := RX4) (T := TX4) (N := 32) (ci := 4) hx hb hts in_X4 hown hK hw rfl 10 (by decide) q1149 (gI_f ev13) dX4_readLine_62 ?_
          refine lv_iconst (v := iI 4) hx hb dX4_readLine_65 rfl ?_
          refine lv_icmp_ge (tgt := 73) hx hb dX4_readLine_66 (by decide) (fun c14 => ?_) (fun c14 => ?_)
          · have ho8 := oi_t ho8 c14
            refine lv_iconst (v := iI 0) hx hb dX4_readLine_73 rfl ?_
            refine lv_goto (tgt := 90) hx hb dX4_readLine_74 (by decide) ?_
            obtain rfl := Option.some.inj ho8
            exact hJ8 _ _ _ hw (lv_sub hl [1, 0] rfl)
          · have ho8 := oi_f ho8 c14
            refine lv_iconst (v := iI 1) hx hb dX4_readLine_69 rfl ?_
            refine lv_goto (tgt := 90) hx hb dX4_readLine_70 (by decide) ?_
            obtain rfl := Option.some.inj ho8
            exact hJ8 _ _ _ hw (lv_sub hl [1, 0] rfl)
      · have ho8 := oi_t ho8 c9
        refine lv_aload_n hx hb dX4_readLine_40 rfl (lv_at hl 1 rfl) ?_
        obtain ⟨v15, ev15, ho8⟩ := ob_s ho8
        refine ep_get (C := RX4) (T := TX4) (N := 32) (ci := 4) hx hb hts in_X4 hown hK hw rfl 8 (by decide) q1147 (gI_f ev15) dX4_readLine_41 ?_
        refine lv_iconst (v := iI 4) hx hb dX4_readLine_44 rfl ?_
        refine lv_icmp_ge (tgt := 52) hx hb dX4_readLine_45 (by decide) (fun c16 => ?_) (fun c16 => ?_)
        · have ho8 := oi_t ho8 c16
          refine lv_iconst (v := iI 0) hx hb dX4_readLine_52 rfl ?_
          refine lv_goto (tgt := 90) hx hb dX4_readLine_53 (by decide) ?_
          obtain rfl := Option.some.inj ho8
          exact hJ8 _ _ _ hw (lv_sub hl [1, 0] rfl)
        · have ho8 := oi_f ho8 c16
          refine lv_iconst (v := iI 1) hx hb dX4_readLine_48 rfl ?_
          refine lv_goto (tgt := 90) hx hb dX4_readLine_49 (by decide) ?_
          obtain rfl := Option.some.inj ho8
          exact hJ8 _ _ _ hw (lv_sub hl [1, 0] rfl)
    refine lv_icmp_eq (tgt := 29) hx hb dX4_readLine_22 (by decide) (fun c6 => ?_) (fun c6 => ?_)
    · refine lv_iconst (v := iI 0) hx hb dX4_readLine_29 rfl ?_
      rw [if_pos c6] at hJ5
      exact hJ5
    · refine lv_iconst (v := iI 1) hx hb dX4_readLine_25 rfl ?_
      refine lv_goto (tgt := 30) hx hb dX4_readLine_26 (by decide) ?_
      rw [if_neg c6] at hJ5
      exact hJ5
  refine lv_icmp_ne (tgt := 15) hx hb dX4_readLine_5 (by decide) (fun c3 => ?_) (fun c3 => ?_)
  · have ho2 := oi_f ho2 c3
    refine lv_bipush (v := iI (-4)) hx hb dX4_readLine_15 (by decide) ?_
    obtain rfl := Option.some.inj ho2
    exact hJ2 _ _ _ hw (lv_sub hl [0] rfl)
  · have ho2 := oi_t ho2 c3
    refine lv_aload_n hx hb dX4_readLine_8 rfl (lv_at hl 0 rfl) ?_
    obtain ⟨v4, ev4, ho2⟩ := ob_s ho2
    refine ep_calli0 (va_runV (As := []) (rest := []) ⟨hx, hb, hml, hown, hts⟩ (metX4_lineNow l G h a0 ev4) (cwV 0 hts (lw_V q1273 q1275 qs40 q89 q1276) rfl rfl rfl hdX4_lineNow ⟨Nat.le_of_ble_eq_true rfl, Nat.le_of_ble_eq_true rfl⟩) (ep_preV hK hZ hw rfl (ckX4_lineNow ev4)) rfl rfl hl.1 rfl (lv_room (Nat.le_of_ble_eq_true rfl)) dX4_readLine_9 ⟨Nat.le_of_ble_eq_true rfl, Nat.le_of_ble_eq_true rfl⟩) hw (fun H locs hw => ?_)
    refine lv_goto (tgt := 17) hx hb dX4_readLine_12 (by decide) ?_
    obtain rfl := Option.some.inj ho2
    exact hJ2 _ _ _ hw (lv_sub hl [0] rfl)
theorem hsX4_flag : yX4_flag.cls ≠ "java/lang/invoke/MethodHandle" ∧ yX4_flag.cls ≠ "java/lang/invoke/VarHandle" ∧ (parseMethodDescriptor yX4_flag.desc).map (fun d => d.parameters.length) = some 1 := by decide +kernel
abbrev wX4_flag (p : Program) (l : Launch) (e : Env) (s : State) (m : MethodId) (below : List Frame) (meth : Method) (c : Code) (G : EG) (h : Hp) (x0 : Int32) (res : Int32) (k9 n9 : Nat) (H : Heap) (locs : List Loc) (g : JFrame) : Prop := W p l e (headSpec (ws_ yX4_flag cX4_flag 1 (some .int)) ({ frames := 0, cells := 0, slots := 0, locals := 0 } : Room)).room s m ([.int x0] : List Value).toArray below meth c H locs k9 n9 (MQ below (ep_Qi G ep_cl h res) ([.int x0] : List Value).toArray s 0 0 (ep_A G)) g
set_option maxHeartbeats 4000000 in
theorem metX4_flag (l : Launch) (G : EG) (h : Hp) (x0 : Int32) {res : Int32} (hf : fX4_flag x0 = some res) : Met l yX4_flag (ws_ yX4_flag cX4_flag 1 (some .int)) ({ frames := 0, cells := 0, slots := 0, locals := 0 } : Room) (ep_Pc G ep_cl h [.int x0]) (ep_Qi G ep_cl h res) 0 0 (ep_A G) := by
  refine Met.ofW (cc := cX4_flag) (maxL := 1) (ret := (some .int)) (by decide) rfl ?_
  intro p e s m args below meth c s₁ B hml hv
  obtain ⟨rfl, hR, hK, hZ⟩ := hv
  have hx := B.exec
  have hb := B.bytes
  have hr := B.returns
  have hlocks := B.notSynchronized
  have hts := atoms_spec (ws := (ws_ yX4_flag cX4_flag 1 (some .int))) B.pre
  have hts : ∀ w ∈ lw_all, w.before _ s = true := fun w h => hts w (List.mem_cons_of_mem _ h)
  have hown : s.vm.findClass RX4 = some m.cls := findClass_of_methodNamed B.named
  have hw : ep_W G ep_cl h s s.heap [] := ⟨hR, va_S.rf⟩
  have hl := lv_entry ([.int x0]) (n := 1) (Nat.le_of_ble_eq_true rfl)
  rw [lg_entry_eq]
  generalize (lg_sl ([.int x0]) ++ List.replicate (1 - (lg_sl ([.int x0])).length) Slot.unset).toArray = ls at hl ⊢
  have hl : lv_has ls 1 [(0, .int x0)] := hl
  unfold fX4_flag at hf
  show wX4_flag p l e s m below meth c G h x0 res 0 0 s.heap ([]) (F0 m 0 ls [])
  refine lv_iload_n hx hb dX4_flag_0 rfl (lv_at hl 0 rfl) ?_
  refine lv_if_eq (tgt := 8) hx hb dX4_flag_1 (by decide) (fun c1 => ?_) (fun c1 => ?_)
  · have hf := oi_t hf c1
    refine lv_iconst (v := iI 0) hx hb dX4_flag_8 rfl ?_
    exact ep_retiR hx hb hr hlocks hw hf dX4_flag_9
  · have hf := oi_f hf c1
    refine lv_iconst (v := iI 1) hx hb dX4_flag_4 rfl ?_
    refine lv_goto (tgt := 9) hx hb dX4_flag_5 (by decide) ?_
    exact ep_retiR hx hb hr hlocks hw hf dX4_flag_9
theorem hdX4_doFit : yX4_doFit.cls = RX4 ∧ yX4_doFit.cls ≠ "java/lang/invoke/MethodHandle" ∧ yX4_doFit.cls ≠ "java/lang/invoke/VarHandle" ∧ (parseMethodDescriptor yX4_doFit.desc).map (fun d => d.parameters.length) = some 0 := by decide +kernel
theorem ckX4_doFit {h : Hp} {a0 : Nat} {res : Int32} (hf : fX4_doFit h a0 = some res) : ep_cls h a0 = some 4 := by
  unfold fX4_doFit at hf
  exact (oi_c hf).1
abbrev wX4_doFit (p : Program) (l : Launch) (e : Env) (s : State) (m : MethodId) (below : List Frame) (meth : Method) (c : Code) (G : EG) (h : Hp) (a0 : Nat) (res : Int32) (k9 n9 : Nat) (H : Heap) (locs : List Loc) (g : JFrame) : Prop := W p l e (headSpec (ws_ yX4_doFit cX4_doFit 5 (some .boolean)) ({ frames := 1, cells := 0, slots := 0, locals := 20 } : Room)).room s m ([.ref a0] : List Value).toArray below meth c H locs k9 n9 (MQ below (ep_Qi G ep_cl h res) ([.ref a0] : List Value).toArray s 0 0 (ep_A G)) g
set_option maxHeartbeats 4000000 in
theorem metX4_doFit (l : Launch) (G : EG) (h : Hp) (a0 : Nat) {res : Int32} (hf : fX4_doFit h a0 = some res) : Met l yX4_doFit (ws_ yX4_doFit cX4_doFit 5 (some .boolean)) ({ frames := 1, cells := 0, slots := 0, locals := 20 } : Room) (ep_Pc G ep_cl h [.ref a0]) (ep_Qi G ep_cl h res) 0 0 (ep_A G) := by
  refine Met.ofW (cc := cX4_doFit) (maxL := 5) (ret := (some .boolean)) (by decide) rfl ?_
  intro p e s m args below meth c s₁ B hml hv
  obtain ⟨rfl, hR, hK, hZ⟩ := hv
  have hx := B.exec
  have hb := B.bytes
  have hr := B.returns
  have hlocks := B.notSynchronized
  have hts := atoms_spec (ws := (ws_ yX4_doFit cX4_doFit 5 (some .boolean))) B.pre
  have hts : ∀ w ∈ lw_all, w.before _ s = true := fun w h => hts w (List.mem_cons_of_mem _ h)
  have hown : s.vm.findClass RX4 = some m.cls := findClass_of_methodNamed B.named
  have hw : ep_W G ep_cl h s s.heap [] := ⟨hR, va_S.rf⟩
  have hl := lv_entry ([.ref a0]) (n := 5) (Nat.le_of_ble_eq_true rfl)
  rw [lg_entry_eq]
  generalize (lg_sl ([.ref a0]) ++ List.replicate (5 - (lg_sl ([.ref a0])).length) Slot.unset).toArray = ls at hl ⊢
  have hl : lv_has ls 5 [(0, .ref a0)] := hl
  unfold fX4_doFit at hf
  have hf := (oi_c hf).2
  show wX4_doFit p l e s m below meth c G h a0 res 0 0 s.heap ([]) (F0 m 0 ls [])
  refine lv_iconst (v := iI 1) hx hb dX4_doFit_0 rfl ?_
  refine lv_istore_n (lv' := [(1, .int (iI 1)), (0, .ref a0)]) hx hb dX4_doFit_1 rfl hl (by decide) rfl (fun ls hl => ?_)
  refine lv_iconst (v := iI 0) hx hb dX4_doFit_2 rfl ?_
  refine lv_istore_n (lv' := [(2, .int (iI 0)), (1, .int (iI 1)), (0, .ref a0)]) hx hb dX4_doFit_3 rfl hl (by decide) rfl (fun ls hl => ?_)
  obtain ⟨o1, ho1, hf⟩ := ob_s hf
  have hJ1 : ∀ (H : Heap) (locs : List Loc) (ls : Array Slot), ep_W G ep_cl h s H locs → lv_has ls 5 [(1, .int o1)] → wX4_doFit p l e s m below meth c G h a0 res 0 0 H locs (F0 m 80 ls []) := by
    intro H locs ls hw hl
    refine lv_iload_n hx hb dX4_doFit_80 rfl (lv_at hl 0 rfl) ?_
    obtain ⟨z, ez, hf⟩ := ob_s hf
    obtain ⟨hz, hn⟩ := ckZ_s ez
    rw [hz] at hf
    exact ep_retzR hx hb hr hn hlocks hw hf dX4_doFit_81
  have hL1 : ∀ (fu : Nat) (x1 : Int32) (x2 : Int32), fX4_doFit_L4 h a0 fu x1 x2 = some o1 → ∀ (H : Heap) (locs : List Loc) (ls : Array Slot), ep_W G ep_cl h s H locs → lv_has ls 5 [(0, .ref a0), (1, .int x1), (2, .int x2)] → wX4_doFit p l e s m below meth c G h a0 res 0 0 H locs (F0 m 4 ls []) := by
    intro fu
    induction fu with
    | zero => intro x1 x2 ho1; cases ho1
    | succ fu ih1 =>
      intro x1 x2 ho1 H locs ls hw hl
      rw [fX4_doFit_L4] at ho1
      refine lv_iload_n hx hb dX4_doFit_4 rfl (lv_at hl 2 rfl) ?_
      refine lv_iconst (v := iI 4) hx hb dX4_doFit_5 rfl ?_
      refine lv_icmp_ge (tgt := 80) hx hb dX4_doFit_6 (by decide) (fun c2 => ?_) (fun c2 => ?_)
      · have ho1 := oi_t ho1 c2
        obtain rfl := Option.some.inj ho1
        exact hJ1 _ _ _ hw (lv_sub hl [1] rfl)
      · have ho1 := oi_f ho1 c2
        refine lv_iconst (v := iI 0) hx hb dX4_doFit_9 rfl ?_
        refine lv_istore_n (lv' := [(3, .int (iI 0)), (0, .ref a0), (1, .int x1), (2, .int x2)]) hx hb dX4_doFit_10 rfl hl (by decide) rfl (fun ls hl => ?_)
        refine lv_iconst (v := iI 0) hx hb dX4_doFit_11 rfl ?_
        refine lv_istore (lv' := [(4, .int (iI 0)), (3, .int (iI 0)), (0, .ref a0), (1, .int x1), (2, .int x2)]) hx hb dX4_doFit_12 hl (by decide) rfl (fun ls hl => ?_)
        obtain ⟨o3, ho3, ho1⟩ := ob_s ho1
        have hJ3 : ∀ (H : Heap) (locs : List Loc) (ls : Array Slot), ep_W G ep_cl h s H locs → lv_has ls 5 [(0, .ref a0), (1, .int x1), (2, .int x2), (3, .int o3)] → wX4_doFit p l e s m below meth c G h a0 res 0 0 H locs (F0 m 59 ls []) := by
          intro H locs ls hw hl
          refine lv_iload_n hx hb dX4_doFit_59 rfl (lv_at hl 1 rfl) ?_
          have hJ11 : wX4_doFit p l e s m below meth c G h a0 res 0 0 H locs (F0 m 73 ls [.int (if x1 = 0 then iI 0 else (if (iI 3) < o3 then iI 0 else iI 1))]) := by
            refine lv_istore_n (lv' := [(1, .int (if x1 = 0 then iI 0 else (if (iI 3) < o3 then iI 0 else iI 1))), (0, .ref a0), (2, .int x2), (3, .int o3)]) hx hb dX4_doFit_73 rfl hl (by decide) rfl (fun ls hl => ?_)
            refine lv_iinc (v := (x2 + iI 1)) (lv' := [(2, .int (x2 + iI 1)), (1, .int (if x1 = 0 then iI 0 else (if (iI 3) < o3 then iI 0 else iI 1))), (0, .ref a0), (3, .int o3)]) hx hb dX4_doFit_74 hl (k := 2) rfl rfl (by decide) rfl (fun ls hl => ?_)
            refine lv_goto (tgt := 4) hx hb dX4_doFit_77 (by decide) ?_
            exact ih1 _ _ ho1 _ _ _ hw (lv_sub hl [2, 1, 0] rfl)
          refine lv_if_eq (tgt := 72) hx hb dX4_doFit_60 (by decide) (fun c12 => ?_) (fun c12 => ?_)
          · refine lv_iconst (v := iI 0) hx hb dX4_doFit_72 rfl ?_
            rw [if_pos c12] at hJ11
            exact hJ11
          · refine lv_iload_n hx hb dX4_doFit_63 rfl (lv_at hl 3 rfl) ?_
            refine lv_iconst (v := iI 3) hx hb dX4_doFit_64 rfl ?_
            refine lv_icmp_gt (tgt := 72) hx hb dX4_doFit_65 (by decide) (fun c13 => ?_) (fun c13 => ?_)
            · refine lv_iconst (v := iI 0) hx hb dX4_doFit_72 rfl ?_
              rw [if_neg c12, if_pos c13] at hJ11
              exact hJ11
            · refine lv_iconst (v := iI 1) hx hb dX4_doFit_68 rfl ?_
              refine lv_goto (tgt := 73) hx hb dX4_doFit_69 (by decide) ?_
              rw [if_neg c12, if_neg c13] at hJ11
              exact hJ11
        have hL3 : ∀ (fu : Nat) (x3 : Int32) (x4 : Int32), fX4_doFit_L14 h a0 x1 x2 fu x3 x4 = some o3 → ∀ (H : Heap) (locs : List Loc) (ls : Array Slot), ep_W G ep_cl h s H locs → lv_has ls 5 [(0, .ref a0), (1, .int x1), (2, .int x2), (3, .int x3), (4, .int x4)] → wX4_doFit p l e s m below meth c G h a0 res 0 0 H locs (F0 m 14 ls []) := by
          intro fu
          induction fu with
          | zero => intro x3 x4 ho3; cases ho3
          | succ fu ih3 =>
            intro x3 x4 ho3 H locs ls hw hl
            rw [fX4_doFit_L14] at ho3
            refine lv_iload hx hb dX4_doFit_14 (lv_at hl 4 rfl) ?_
            refine lv_aload_n hx hb dX4_doFit_16 rfl (lv_at hl 0 rfl) ?_
            obtain ⟨v4, ev4, ho3⟩ := ob_s ho3
            refine ep_get (C := RX4) (T := TX4) (N := 32) (ci := 4) hx hb hts in_X4 hown hK hw rfl 9 (by decide) q1148 (gI_f ev4) dX4_doFit_17 ?_
            refine lv_icmp_ge (tgt := 59) hx hb dX4_doFit_20 (by decide) (fun c5 => ?_) (fun c5 => ?_)
            · have ho3 := oi_t ho3 c5
              obtain rfl := Option.some.inj ho3
              exact hJ3 _ _ _ hw (lv_sub hl [0, 1, 2, 3] rfl)
            · have ho3 := oi_f ho3 c5
              refine lv_iload_n hx hb dX4_doFit_23 rfl (lv_at hl 3 rfl) ?_
              refine lv_aload_n hx hb dX4_doFit_24 rfl (lv_at hl 0 rfl) ?_
              obtain ⟨r6, er6, ho3⟩ := ob_s ho3
              refine ep_get (C := RX4) (T := TX4) (N := 32) (ci := 4) hx hb hts in_X4 hown hK hw rfl 7 (by decide) q1146 (gR_f er6) dX4_doFit_25 ?_
              refine lv_bipush (v := iI 8) hx hb dX4_doFit_28 (by decide) ?_
              refine lv_bipush (v := iI 9) hx hb dX4_doFit_30 (by decide) ?_
              refine lv_iload hx hb dX4_doFit_32 (lv_at hl 4 rfl) ?_
              refine lv_imul hx hb dX4_doFit_34 ?_
              refine lv_iadd hx hb dX4_doFit_35 ?_
              refine lv_iconst (v := iI 2) hx hb dX4_doFit_36 rfl ?_
              refine lv_iadd hx hb dX4_doFit_37 ?_
              obtain ⟨v7, ev7, ho3⟩ := ob_s ho3
              refine ep_iald hx hb hK hw ev7 dX4_doFit_38 ?_
              refine lv_iload_n hx hb dX4_doFit_39 rfl (lv_at hl 2 rfl) ?_
              have hJ8 : wX4_doFit p l e s m below meth c G h a0 res 0 0 H locs (F0 m 48 ls [.int (if v7 = x2 then iI 1 else iI 0), .int x3]) := by
                obtain ⟨v10, ev10, ho3⟩ := ob_s ho3
                refine ep_calli0 (va_runS (As := [.int (if v7 = x2 then iI 1 else iI 0)]) (rest := [.int x3]) ⟨hx, hb, hml, hown, hts⟩ (metX4_flag l G h (if v7 = x2 then iI 1 else iI 0) ev10) (va_cwS 1 hts (lw_S q1308 q1309 q89 q1310) rfl rfl rfl hsX4_flag ⟨Nat.le_of_ble_eq_true rfl, Nat.le_of_ble_eq_true rfl⟩) (ep_preS hK hZ hw) rfl rfl hl.1 rfl (lv_room (Nat.le_of_ble_eq_true rfl)) dX4_doFit_48 ⟨Nat.le_of_ble_eq_true rfl, Nat.le_of_ble_eq_true rfl⟩) hw (fun H locs hw => ?_)
                refine lv_iadd hx hb dX4_doFit_51 ?_
                refine lv_istore_n (lv' := [(3, .int (x3 + v10)), (0, .ref a0), (1, .int x1), (2, .int x2), (4, .int x4)]) hx hb dX4_doFit_52 rfl hl (by decide) rfl (fun ls hl => ?_)
                refine lv_iinc (v := (x4 + iI 1)) (lv' := [(4, .int (x4 + iI 1)), (3, .int (x3 + v10)), (0, .ref a0), (1, .int x1), (2, .int x2)]) hx hb dX4_doFit_53 hl (k := 4) rfl rfl (by decide) rfl (fun ls hl => ?_)
                refine lv_goto (tgt := 14) hx hb dX4_doFit_56 (by decide) ?_
                exact ih3 _ _ ho3 _ _ _ hw (lv_sub hl [2, 3, 4, 1, 0] rfl)
              refine lv_icmp_ne (tgt := 47) hx hb dX4_doFit_40 (by decide) (fun c9 => ?_) (fun c9 => ?_)
              · refine lv_iconst (v := iI 0) hx hb dX4_doFit_47 rfl ?_
                rw [if_neg c9] at hJ8
                exact hJ8
              · refine lv_iconst (v := iI 1) hx hb dX4_doFit_43 rfl ?_
                refine lv_goto (tgt := 48) hx hb dX4_doFit_44 (by decide) ?_
                rw [if_pos c9] at hJ8
                exact hJ8
        exact hL3 FUEL _ _ ho3 _ _ _ hw (lv_sub hl [2, 3, 4, 1, 0] rfl)
  exact hL1 FUEL _ _ ho1 _ _ _ hw (lv_sub hl [2, 1, 0] rfl)
theorem hdX4_text : yX4_text.cls = RX4 ∧ yX4_text.cls ≠ "java/lang/invoke/MethodHandle" ∧ yX4_text.cls ≠ "java/lang/invoke/VarHandle" ∧ (parseMethodDescriptor yX4_text.desc).map (fun d => d.parameters.length) = some 0 := by decide +kernel
theorem ckX4_text {h : Hp} {a0 : Nat} {res : Int32 × Hp} (hf : fX4_text h a0 = some res) : ep_cls h a0 = some 4 := by
  unfold fX4_text at hf
  exact (oi_c hf).1
abbrev wX4_text (p : Program) (l : Launch) (e : Env) (s : State) (m : MethodId) (below : List Frame) (meth : Method) (c : Code) (G : EG) (h : Hp) (a0 : Nat) (res : Int32 × Hp) (k9 n9 : Nat) (H : Heap) (locs : List Loc) (g : JFrame) : Prop := W p l e (headSpec (ws_ yX4_text cX4_text 2 (some .int)) ({ frames := 5, cells := 0, slots := 0, locals := 112 } : Room)).room s m ([.ref a0] : List Value).toArray below meth c H locs k9 n9 (MQ below (ep_Qi G ep_cl res.2 res.1) ([.ref a0] : List Value).toArray s 0 0 (ep_A G)) g
set_option maxHeartbeats 4000000 in
theorem metX4_text (l : Launch) (G : EG) (h : Hp) (a0 : Nat) {res : Int32 × Hp} (hf : fX4_text h a0 = some res) : Met l yX4_text (ws_ yX4_text cX4_text 2 (some .int)) ({ frames := 5, cells := 0, slots := 0, locals := 112 } : Room) (ep_Pc G ep_cl h [.ref a0]) (ep_Qi G ep_cl res.2 res.1) 0 0 (ep_A G) := by
  refine Met.ofW (cc := cX4_text) (maxL := 2) (ret := (some .int)) (by decide) rfl ?_
  intro p e s m args below meth c s₁ B hml hv
  obtain ⟨rfl, hR, hK, hZ⟩ := hv
  have hx := B.exec
  have hb := B.bytes
  have hr := B.returns
  have hlocks := B.notSynchronized
  have hts := atoms_spec (ws := (ws_ yX4_text cX4_text 2 (some .int))) B.pre
  have hts : ∀ w ∈ lw_all, w.before _ s = true := fun w h => hts w (List.mem_cons_of_mem _ h)
  have hown : s.vm.findClass RX4 = some m.cls := findClass_of_methodNamed B.named
  have hw : ep_W G ep_cl h s s.heap [] := ⟨hR, va_S.rf⟩
  have hl := lv_entry ([.ref a0]) (n := 2) (Nat.le_of_ble_eq_true rfl)
  rw [lg_entry_eq]
  generalize (lg_sl ([.ref a0]) ++ List.replicate (2 - (lg_sl ([.ref a0])).length) Slot.unset).toArray = ls at hl ⊢
  have hl : lv_has ls 2 [(0, .ref a0)] := hl
  unfold fX4_text at hf
  have hf := (oi_c hf).2
  show wX4_text p l e s m below meth c G h a0 res 0 0 s.heap ([]) (F0 m 0 ls [])
  refine lv_iconst (v := iI 0) hx hb dX4_text_0 rfl ?_
  refine lv_istore_n (lv' := [(1, .int (iI 0)), (0, .ref a0)]) hx hb dX4_text_1 rfl hl (by decide) rfl (fun ls hl => ?_)
  refine lv_aload_n hx hb dX4_text_2 rfl (lv_at hl 1 rfl) ?_
  refine lv_iconst (v := iI 0) hx hb dX4_text_3 rfl ?_
  obtain ⟨h1, eh1, hf⟩ := ob_s hf
  refine ep_put (C := RX4) (T := TX4) (N := 32) (ci := 4) hx hb hts in_X4 tyX4 tyX4_ok nmX4 hown hK hw rfl (by decide) 19 (by decide) q1158 rfl rfl rfl eh1 dX4_text_4 (fun H locs hw => ?_)
  refine lv_aload_n hx hb dX4_text_7 rfl (lv_at hl 1 rfl) ?_
  refine lv_iconst (v := iI 0) hx hb dX4_text_8 rfl ?_
  obtain ⟨h2, eh2, hf⟩ := ob_s hf
  refine ep_put (C := RX4) (T := TX4) (N := 32) (ci := 4) hx hb hts in_X4 tyX4 tyX4_ok nmX4 hown hK hw rfl (by decide) 15 (by decide) q1154 rfl rfl rfl eh2 dX4_text_9 (fun H locs hw => ?_)
  refine lv_aload_n hx hb dX4_text_12 rfl (lv_at hl 1 rfl) ?_
  obtain ⟨o3, eo3, hf⟩ := ob_s hf
  refine ep_callv0 (va_runV (As := []) (rest := []) ⟨hx, hb, hml, hown, hts⟩ (metX4_firstDraft l G h2 a0 eo3) (cwV 0 hts (lw_V q1131 q1133 qs34 q89 q1134) rfl rfl rfl hdX4_firstDraft ⟨Nat.le_of_ble_eq_true rfl, Nat.le_of_ble_eq_true rfl⟩) (ep_preV hK hZ hw rfl (ckX4_firstDraft eo3)) rfl rfl hl.1 rfl (lv_room (Nat.le_of_ble_eq_true rfl)) dX4_text_13 ⟨Nat.le_of_ble_eq_true rfl, Nat.le_of_ble_eq_true rfl⟩) hw (fun H locs hw => ?_)
  refine lv_aload_n hx hb dX4_text_16 rfl (lv_at hl 1 rfl) ?_
  obtain ⟨o4, eo4, hf⟩ := ob_s hf
  refine ep_callv0 (va_runV (As := []) (rest := []) ⟨hx, hb, hml, hown, hts⟩ (metX4_next l G o3 a0 eo4) (cwV 0 hts (lw_V q1253 q1255 qs36 q89 q1256) rfl rfl rfl hdX4_next ⟨Nat.le_of_ble_eq_true rfl, Nat.le_of_ble_eq_true rfl⟩) (ep_preV hK hZ hw rfl (ckX4_next eo4)) rfl rfl hl.1 rfl (lv_room (Nat.le_of_ble_eq_true rfl)) dX4_text_17 ⟨Nat.le_of_ble_eq_true rfl, Nat.le_of_ble_eq_true rfl⟩) hw (fun H locs hw => ?_)
  obtain ⟨o5, ho5, hf⟩ := ob_s hf
  have hJ5 : ∀ (H : Heap) (locs : List Loc) (ls : Array Slot), ep_W G ep_cl o5.1 s H locs → lv_has ls 2 [(0, .ref a0), (1, .int o5.2)] → wX4_text p l e s m below meth c G h a0 res 0 0 H locs (F0 m 44 ls []) := by
    intro H locs ls hw hl
    refine lv_aload_n hx hb dX4_text_44 rfl (lv_at hl 0 rfl) ?_
    obtain ⟨v11, ev11, hf⟩ := ob_s hf
    refine ep_get (C := RX4) (T := TX4) (N := 32) (ci := 4) hx hb hts in_X4 hown hK hw rfl 19 (by decide) q1158 (gI_f ev11) dX4_text_45 ?_
    obtain ⟨o12, ho12, hf⟩ := ob_s hf
    have hJ12 : ∀ (H : Heap) (locs : List Loc) (ls : Array Slot), ep_W G ep_cl o12 s H locs → lv_has ls 2 [(0, .ref a0), (1, .int o5.2)] → wX4_text p l e s m below meth c G h a0 res 0 0 H locs (F0 m 83 ls []) := by
      intro H locs ls hw hl
      refine lv_aload_n hx hb dX4_text_83 rfl (lv_at hl 0 rfl) ?_
      refine lv_iconst (v := iI 0) hx hb dX4_text_84 rfl ?_
      obtain ⟨h21, eh21, hf⟩ := ob_s hf
      refine ep_put (C := RX4) (T := TX4) (N := 32) (ci := 4) hx hb hts in_X4 tyX4 tyX4_ok nmX4 hown hK hw rfl (by decide) 14 (by decide) q1153 rfl rfl rfl eh21 dX4_text_85 (fun H locs hw => ?_)
      refine lv_aload_n hx hb dX4_text_88 rfl (lv_at hl 0 rfl) ?_
      obtain ⟨v22, ev22, hf⟩ := ob_s hf
      refine ep_get (C := RX4) (T := TX4) (N := 32) (ci := 4) hx hb hts in_X4 hown hK hw rfl 19 (by decide) q1158 (gI_f ev22) dX4_text_89 ?_
      refine lv_if_le (tgt := 103) hx hb dX4_text_92 (by decide) (fun c23 => ?_) (fun c23 => ?_)
      · have hf := oi_t hf c23
        refine lv_aload_n hx hb dX4_text_103 rfl (lv_at hl 0 rfl) ?_
        obtain ⟨o24, eo24, hf⟩ := ob_s hf
        refine ep_callv0 (va_runV (As := []) (rest := []) ⟨hx, hb, hml, hown, hts⟩ (metX4_keepDraft l G h21 a0 eo24) (cwV 0 hts (lw_V q1135 q1137 qs35 q89 q1138) rfl rfl rfl hdX4_keepDraft ⟨Nat.le_of_ble_eq_true rfl, Nat.le_of_ble_eq_true rfl⟩) (ep_preV hK hZ hw rfl (ckX4_keepDraft eo24)) rfl rfl hl.1 rfl (lv_room (Nat.le_of_ble_eq_true rfl)) dX4_text_104 ⟨Nat.le_of_ble_eq_true rfl, Nat.le_of_ble_eq_true rfl⟩) hw (fun H locs hw => ?_)
        refine lv_iload_n hx hb dX4_text_107 rfl (lv_at hl 1 rfl) ?_
        exact ep_retiW hx hb hr hlocks hw hf dX4_text_108
      · have hf := oi_f hf c23
        refine lv_bipush (v := iI (-10)) hx hb dX4_text_95 (by decide) ?_
        refine lv_aload_n hx hb dX4_text_97 rfl (lv_at hl 0 rfl) ?_
        obtain ⟨v25, ev25, hf⟩ := ob_s hf
        refine ep_get (C := RX4) (T := TX4) (N := 32) (ci := 4) hx hb hts in_X4 hown hK hw rfl 20 (by decide) q1159 (gI_f ev25) dX4_text_98 ?_
        refine lv_isub hx hb dX4_text_101 ?_
        exact ep_retiW hx hb hr hlocks hw hf dX4_text_102
    refine lv_if_ne (tgt := 83) hx hb dX4_text_48 (by decide) (fun c13 => ?_) (fun c13 => ?_)
    · have ho12 := oi_f ho12 c13
      obtain rfl := Option.some.inj ho12
      exact hJ12 _ _ _ hw (lv_sub hl [0, 1] rfl)
    · have ho12 := oi_t ho12 c13
      refine lv_aload_n hx hb dX4_text_51 rfl (lv_at hl 0 rfl) ?_
      refine lv_aload_n hx hb dX4_text_52 rfl (lv_at hl 0 rfl) ?_
      obtain ⟨v14, ev14, ho12⟩ := ob_s ho12
      refine ep_get (C := RX4) (T := TX4) (N := 32) (ci := 4) hx hb hts in_X4 hown hK hw rfl 12 (by decide) q1151 (gI_f ev14) dX4_text_53 ?_
      refine lv_aload_n hx hb dX4_text_56 rfl (lv_at hl 0 rfl) ?_
      obtain ⟨v15, ev15, ho12⟩ := ob_s ho12
      refine ep_get (C := RX4) (T := TX4) (N := 32) (ci := 4) hx hb hts in_X4 hown hK hw rfl 8 (by decide) q1147 (gI_f ev15) dX4_text_57 ?_
      have hJ16 : wX4_text p l e s m below meth c G h a0 res 0 0 H locs (F0 m 68 ls [.int (if v15 ≤ v14 then iI 0 else iI 1), .ref a0]) := by
        refine lv_bipush (v := iI 6) hx hb dX4_text_68 (by decide) ?_
        obtain ⟨o18, eo18, ho12⟩ := ob_s ho12
        refine ep_callv0 (va_runV (As := [.int (if v15 ≤ v14 then iI 0 else iI 1), .int (iI 6)]) (rest := []) ⟨hx, hb, hml, hown, hts⟩ (metX4_needs l G o5.1 a0 (if v15 ≤ v14 then iI 0 else iI 1) (iI 6) eo18) (cwV 2 hts (lw_V q1265 q1267 qs38 q89 q1268) rfl rfl rfl hdX4_needs ⟨Nat.le_of_ble_eq_true rfl, Nat.le_of_ble_eq_true rfl⟩) (ep_preV hK hZ hw rfl (ckX4_needs eo18)) rfl rfl hl.1 rfl (lv_room (Nat.le_of_ble_eq_true rfl)) dX4_text_70 ⟨Nat.le_of_ble_eq_true rfl, Nat.le_of_ble_eq_true rfl⟩) hw (fun H locs hw => ?_)
        refine lv_aload_n hx hb dX4_text_73 rfl (lv_at hl 0 rfl) ?_
        refine lv_aload_n hx hb dX4_text_74 rfl (lv_at hl 0 rfl) ?_
        obtain ⟨v19, ev19, ho12⟩ := ob_s ho12
        refine ep_calli0 (va_runV (As := []) (rest := [.ref a0]) ⟨hx, hb, hml, hown, hts⟩ (metX4_doFit l G o18 a0 ev19) (cwV 0 hts (lw_V q1304 q1306 qs47 q89 q1307) rfl rfl rfl hdX4_doFit ⟨Nat.le_of_ble_eq_true rfl, Nat.le_of_ble_eq_true rfl⟩) (ep_preV hK hZ hw rfl (ckX4_doFit ev19)) rfl rfl hl.1 rfl (lv_room (Nat.le_of_ble_eq_true rfl)) dX4_text_75 ⟨Nat.le_of_ble_eq_true rfl, Nat.le_of_ble_eq_true rfl⟩) hw (fun H locs hw => ?_)
        refine lv_bipush (v := iI 7) hx hb dX4_text_78 (by decide) ?_
        obtain ⟨o20, eo20, ho12⟩ := ob_s ho12
        refine ep_callv0 (va_runV (As := [.int v19, .int (iI 7)]) (rest := []) ⟨hx, hb, hml, hown, hts⟩ (metX4_needs l G o18 a0 v19 (iI 7) eo20) (cwV 2 hts (lw_V q1265 q1267 qs38 q89 q1268) rfl rfl rfl hdX4_needs ⟨Nat.le_of_ble_eq_true rfl, Nat.le_of_ble_eq_true rfl⟩) (ep_preV hK hZ hw rfl (ckX4_needs eo20)) rfl rfl hl.1 rfl (lv_room (Nat.le_of_ble_eq_true rfl)) dX4_text_80 ⟨Nat.le_of_ble_eq_true rfl, Nat.le_of_ble_eq_true rfl⟩) hw (fun H locs hw => ?_)
        obtain rfl := Option.some.inj ho12
        exact hJ12 _ _ _ hw (lv_sub hl [0, 1] rfl)
      refine lv_icmp_ge (tgt := 67) hx hb dX4_text_60 (by decide) (fun c17 => ?_) (fun c17 => ?_)
      · refine lv_iconst (v := iI 0) hx hb dX4_text_67 rfl ?_
        rw [if_pos c17] at hJ16
        exact hJ16
      · refine lv_iconst (v := iI 1) hx hb dX4_text_63 rfl ?_
        refine lv_goto (tgt := 68) hx hb dX4_text_64 (by decide) ?_
        rw [if_neg c17] at hJ16
        exact hJ16
  have hL5 : ∀ (fu : Nat) (h : Hp) (x1 : Int32), fX4_text_L20 a0 fu h x1 = some o5 → ∀ (H : Heap) (locs : List Loc) (ls : Array Slot), ep_W G ep_cl h s H locs → lv_has ls 2 [(0, .ref a0), (1, .int x1)] → wX4_text p l e s m below meth c G h a0 res 0 0 H locs (F0 m 20 ls []) := by
    intro fu
    induction fu with
    | zero => intro h x1 ho5; cases ho5
    | succ fu ih5 =>
      intro h x1 ho5 H locs ls hw hl
      rw [fX4_text_L20] at ho5
      refine lv_aload_n hx hb dX4_text_20 rfl (lv_at hl 0 rfl) ?_
      obtain ⟨v6, ev6, ho5⟩ := ob_s ho5
      refine ep_get (C := RX4) (T := TX4) (N := 32) (ci := 4) hx hb hts in_X4 hown hK hw rfl 19 (by decide) q1158 (gI_f ev6) dX4_text_21 ?_
      refine lv_if_ne (tgt := 44) hx hb dX4_text_24 (by decide) (fun c7 => ?_) (fun c7 => ?_)
      · have ho5 := oi_f ho5 c7
        obtain rfl := Option.some.inj ho5
        exact hJ5 _ _ _ hw (lv_sub hl [0, 1] rfl)
      · have ho5 := oi_t ho5 c7
        refine lv_aload_n hx hb dX4_text_27 rfl (lv_at hl 0 rfl) ?_
        obtain ⟨v8, ev8, ho5⟩ := ob_s ho5
        refine ep_get (C := RX4) (T := TX4) (N := 32) (ci := 4) hx hb hts in_X4 hown hK hw rfl 17 (by decide) q1156 (gI_f ev8) dX4_text_28 ?_
        refine lv_if_eq (tgt := 44) hx hb dX4_text_31 (by decide) (fun c9 => ?_) (fun c9 => ?_)
        · have ho5 := oi_t ho5 c9
          obtain rfl := Option.some.inj ho5
          exact hJ5 _ _ _ hw (lv_sub hl [0, 1] rfl)
        · have ho5 := oi_f ho5 c9
          refine lv_aload_n hx hb dX4_text_34 rfl (lv_at hl 0 rfl) ?_
          obtain ⟨o10, eo10, ho5⟩ := ob_s ho5
          refine ep_callv0 (va_runV (As := []) (rest := []) ⟨hx, hb, hml, hown, hts⟩ (metX4_readLine l G h a0 eo10) (cwV 0 hts (lw_V q1269 q1271 qs39 q89 q1272) rfl rfl rfl hdX4_readLine ⟨Nat.le_of_ble_eq_true rfl, Nat.le_of_ble_eq_true rfl⟩) (ep_preV hK hZ hw rfl (ckX4_readLine eo10)) rfl rfl hl.1 rfl (lv_room (Nat.le_of_ble_eq_true rfl)) dX4_text_35 ⟨Nat.le_of_ble_eq_true rfl, Nat.le_of_ble_eq_true rfl⟩) hw (fun H locs hw => ?_)
          refine lv_iinc (v := (x1 + iI 1)) (lv' := [(1, .int (x1 + iI 1)), (0, .ref a0)]) hx hb dX4_text_38 hl (k := 1) rfl rfl (by decide) rfl (fun ls hl => ?_)
          refine lv_goto (tgt := 20) hx hb dX4_text_41 (by decide) ?_
          exact ih5 _ _ ho5 _ _ _ hw (lv_sub hl [1, 0] rfl)
  exact hL5 FUEL _ _ ho5 _ _ _ hw (lv_sub hl [1, 0] rfl)
theorem hdX4_fault : yX4_fault.cls = RX4 ∧ yX4_fault.cls ≠ "java/lang/invoke/MethodHandle" ∧ yX4_fault.cls ≠ "java/lang/invoke/VarHandle" ∧ (parseMethodDescriptor yX4_fault.desc).map (fun d => d.parameters.length) = some 0 := by decide +kernel
theorem ckX4_fault {h : Hp} {a0 : Nat} {res : Int32} (hf : fX4_fault h a0 = some res) : ep_cls h a0 = some 4 := by
  unfold fX4_fault at hf
  exact (oi_c hf).1
abbrev wX4_fault (p : Program) (l : Launch) (e : Env) (s : State) (m : MethodId) (below : List Frame) (meth : Method) (c : Code) (G : EG) (h : Hp) (a0 : Nat) (res : Int32) (k9 n9 : Nat) (H : Heap) (locs : List Loc) (g : JFrame) : Prop := W p l e (headSpec (ws_ yX4_fault cX4_fault 1 (some .int)) ({ frames := 0, cells := 0, slots := 0, locals := 0 } : Room)).room s m ([.ref a0] : List Value).toArray below meth c H locs k9 n9 (MQ below (ep_Qi G ep_cl h res) ([.ref a0] : List Value).toArray s 0 0 (ep_A G)) g
set_option maxHeartbeats 4000000 in
theorem metX4_fault (l : Launch) (G : EG) (h : Hp) (a0 : Nat) {res : Int32} (hf : fX4_fault h a0 = some res) : Met l yX4_fault (ws_ yX4_fault cX4_fault 1 (some .int)) ({ frames := 0, cells := 0, slots := 0, locals := 0 } : Room) (ep_Pc G ep_cl h [.ref a0]) (ep_Qi G ep_cl h res) 0 0 (ep_A G) := by
  refine Met.ofW (cc := cX4_fault) (maxL := 1) (ret := (some .int)) (by decide) rfl ?_
  intro p e s m args below meth c s₁ B hml hv
  obtain ⟨rfl, hR, hK, hZ⟩ := hv
  have hx := B.exec
  have hb := B.bytes
  have hr := B.returns
  have hlocks := B.notSynchronized
  have hts := atoms_spec (ws := (ws_ yX4_fault cX4_fault 1 (some .int))) B.pre
  have hts : ∀ w ∈ lw_all, w.before _ s = true := fun w h => hts w (List.mem_cons_of_mem _ h)
  have hown : s.vm.findClass RX4 = some m.cls := findClass_of_methodNamed B.named
  have hw : ep_W G ep_cl h s s.heap [] := ⟨hR, va_S.rf⟩
  have hl := lv_entry ([.ref a0]) (n := 1) (Nat.le_of_ble_eq_true rfl)
  rw [lg_entry_eq]
  generalize (lg_sl ([.ref a0]) ++ List.replicate (1 - (lg_sl ([.ref a0])).length) Slot.unset).toArray = ls at hl ⊢
  have hl : lv_has ls 1 [(0, .ref a0)] := hl
  unfold fX4_fault at hf
  have hf := (oi_c hf).2
  show wX4_fault p l e s m below meth c G h a0 res 0 0 s.heap ([]) (F0 m 0 ls [])
  refine lv_aload_n hx hb dX4_fault_0 rfl (lv_at hl 0 rfl) ?_
  obtain ⟨v1, ev1, hf⟩ := ob_s hf
  refine ep_get (C := RX4) (T := TX4) (N := 32) (ci := 4) hx hb hts in_X4 hown hK hw rfl 19 (by decide) q1158 (gI_f ev1) dX4_fault_1 ?_
  exact ep_retiR hx hb hr hlocks hw hf dX4_fault_4
theorem hdX4_starts : yX4_starts.cls = RX4 ∧ yX4_starts.cls ≠ "java/lang/invoke/MethodHandle" ∧ yX4_starts.cls ≠ "java/lang/invoke/VarHandle" ∧ (parseMethodDescriptor yX4_starts.desc).map (fun d => d.parameters.length) = some 0 := by decide +kernel
theorem ckX4_starts {h : Hp} {a0 : Nat} {res : Hp} (hf : fX4_starts h a0 = some res) : ep_cls h a0 = some 4 := by
  unfold fX4_starts at hf
  exact (oi_c hf).1
abbrev wX4_starts (p : Program) (l : Launch) (e : Env) (s : State) (m : MethodId) (below : List Frame) (meth : Method) (c : Code) (G : EG) (h : Hp) (a0 : Nat) (res : Hp) (k9 n9 : Nat) (H : Heap) (locs : List Loc) (g : JFrame) : Prop := W p l e (headSpec (ws_ yX4_starts cX4_starts 2 none) ({ frames := 0, cells := 0, slots := 0, locals := 0 } : Room)).room s m ([.ref a0] : List Value).toArray below meth c H locs k9 n9 (MQ below (ep_Qv G ep_cl res) ([.ref a0] : List Value).toArray s 0 0 (ep_A G)) g
set_option maxHeartbeats 4000000 in
theorem metX4_starts (l : Launch) (G : EG) (h : Hp) (a0 : Nat) {res : Hp} (hf : fX4_starts h a0 = some res) : Met l yX4_starts (ws_ yX4_starts cX4_starts 2 none) ({ frames := 0, cells := 0, slots := 0, locals := 0 } : Room) (ep_Pc G ep_cl h [.ref a0]) (ep_Qv G ep_cl res) 0 0 (ep_A G) := by
  refine Met.ofW (cc := cX4_starts) (maxL := 2) (ret := none) (by decide) rfl ?_
  intro p e s m args below meth c s₁ B hml hv
  obtain ⟨rfl, hR, hK, hZ⟩ := hv
  have hx := B.exec
  have hb := B.bytes
  have hr := B.returns
  have hlocks := B.notSynchronized
  have hts := atoms_spec (ws := (ws_ yX4_starts cX4_starts 2 none)) B.pre
  have hts : ∀ w ∈ lw_all, w.before _ s = true := fun w h => hts w (List.mem_cons_of_mem _ h)
  have hown : s.vm.findClass RX4 = some m.cls := findClass_of_methodNamed B.named
  have hw : ep_W G ep_cl h s s.heap [] := ⟨hR, va_S.rf⟩
  have hl := lv_entry ([.ref a0]) (n := 2) (Nat.le_of_ble_eq_true rfl)
  rw [lg_entry_eq]
  generalize (lg_sl ([.ref a0]) ++ List.replicate (2 - (lg_sl ([.ref a0])).length) Slot.unset).toArray = ls at hl ⊢
  have hl : lv_has ls 2 [(0, .ref a0)] := hl
  unfold fX4_starts at hf
  have hf := (oi_c hf).2
  show wX4_starts p l e s m below meth c G h a0 res 0 0 s.heap ([]) (F0 m 0 ls [])
  refine lv_iconst (v := iI 0) hx hb dX4_starts_0 rfl ?_
  refine lv_istore_n (lv' := [(1, .int (iI 0)), (0, .ref a0)]) hx hb dX4_starts_1 rfl hl (by decide) rfl (fun ls hl => ?_)
  obtain ⟨o1, ho1, hf⟩ := ob_s hf
  have hJ1 : ∀ (H : Heap) (locs : List Loc) (ls : Array Slot), ep_W G ep_cl o1 s H locs → lv_has ls 2 [] → wX4_starts p l e s m below meth c G h a0 res 0 0 H locs (F0 m 26 ls []) := by
    intro H locs ls hw hl
    exact ep_retvW hx hb hr hlocks hw hf dX4_starts_26
  have hL1 : ∀ (fu : Nat) (h : Hp) (x1 : Int32), fX4_starts_L2 a0 fu h x1 = some o1 → ∀ (H : Heap) (locs : List Loc) (ls : Array Slot), ep_W G ep_cl h s H locs → lv_has ls 2 [(0, .ref a0), (1, .int x1)] → wX4_starts p l e s m below meth c G h a0 res 0 0 H locs (F0 m 2 ls []) := by
    intro fu
    induction fu with
    | zero => intro h x1 ho1; cases ho1
    | succ fu ih1 =>
      intro h x1 ho1 H locs ls hw hl
      rw [fX4_starts_L2] at ho1
      refine lv_iload_n hx hb dX4_starts_2 rfl (lv_at hl 1 rfl) ?_
      refine lv_bipush (v := iI 75) hx hb dX4_starts_3 (by decide) ?_
      refine lv_icmp_ge (tgt := 26) hx hb dX4_starts_5 (by decide) (fun c2 => ?_) (fun c2 => ?_)
      · have ho1 := oi_t ho1 c2
        obtain rfl := Option.some.inj ho1
        exact hJ1 _ _ _ hw (lv_sub hl [] rfl)
      · have ho1 := oi_f ho1 c2
        refine lv_aload_n hx hb dX4_starts_8 rfl (lv_at hl 0 rfl) ?_
        obtain ⟨r3, er3, ho1⟩ := ob_s ho1
        refine ep_get (C := RX4) (T := TX4) (N := 32) (ci := 4) hx hb hts in_X4 hown hK hw rfl 1 (by decide) q1140 (gR_f er3) dX4_starts_9 ?_
        refine lv_iload_n hx hb dX4_starts_12 rfl (lv_at hl 1 rfl) ?_
        refine lv_aload_n hx hb dX4_starts_13 rfl (lv_at hl 0 rfl) ?_
        obtain ⟨r4, er4, ho1⟩ := ob_s ho1
        refine ep_get (C := RX4) (T := TX4) (N := 32) (ci := 4) hx hb hts in_X4 hown hK hw rfl 0 (by decide) q1139 (gR_f er4) dX4_starts_14 ?_
        refine lv_iload_n hx hb dX4_starts_17 rfl (lv_at hl 1 rfl) ?_
        obtain ⟨v5, ev5, ho1⟩ := ob_s ho1
        refine ep_iald hx hb hK hw ev5 dX4_starts_18 ?_
        obtain ⟨h6, eh6, ho1⟩ := ob_s ho1
        refine ep_iast hx hb hK hw eh6 dX4_starts_19 (fun H locs hw => ?_)
        refine lv_iinc (v := (x1 + iI 1)) (lv' := [(1, .int (x1 + iI 1)), (0, .ref a0)]) hx hb dX4_starts_20 hl (k := 1) rfl rfl (by decide) rfl (fun ls hl => ?_)
        refine lv_goto (tgt := 2) hx hb dX4_starts_23 (by decide) ?_
        exact ih1 _ _ ho1 _ _ _ hw (lv_sub hl [1, 0] rfl)
  exact hL1 FUEL _ _ ho1 _ _ _ hw (lv_sub hl [1, 0] rfl)
theorem hdX4_of : yX4_of.cls = RX4 ∧ yX4_of.cls ≠ "java/lang/invoke/MethodHandle" ∧ yX4_of.cls ≠ "java/lang/invoke/VarHandle" ∧ (parseMethodDescriptor yX4_of.desc).map (fun d => d.parameters.length) = some 2 := by decide +kernel
theorem ckX4_of {h : Hp} {a0 : Nat} {x1 : Int32} {x2 : Int32} {res : Int32} (hf : fX4_of h a0 x1 x2 = some res) : ep_cls h a0 = some 4 := by
  unfold fX4_of at hf
  exact (oi_c hf).1
abbrev wX4_of (p : Program) (l : Launch) (e : Env) (s : State) (m : MethodId) (below : List Frame) (meth : Method) (c : Code) (G : EG) (h : Hp) (a0 : Nat) (x1 : Int32) (x2 : Int32) (res : Int32) (k9 n9 : Nat) (H : Heap) (locs : List Loc) (g : JFrame) : Prop := W p l e (headSpec (ws_ yX4_of cX4_of 3 (some .int)) ({ frames := 0, cells := 0, slots := 0, locals := 0 } : Room)).room s m ([.ref a0, .int x1, .int x2] : List Value).toArray below meth c H locs k9 n9 (MQ below (ep_Qi G ep_cl h res) ([.ref a0, .int x1, .int x2] : List Value).toArray s 0 0 (ep_A G)) g
set_option maxHeartbeats 4000000 in
theorem metX4_of (l : Launch) (G : EG) (h : Hp) (a0 : Nat) (x1 : Int32) (x2 : Int32) {res : Int32} (hf : fX4_of h a0 x1 x2 = some res) : Met l yX4_of (ws_ yX4_of cX4_of 3 (some .int)) ({ frames := 0, cells := 0, slots := 0, locals := 0 } : Room) (ep_Pc G ep_cl h [.ref a0, .int x1, .int x2]) (ep_Qi G ep_cl h res) 0 0 (ep_A G) := by
  refine Met.ofW (cc := cX4_of) (maxL := 3) (ret := (some .int)) (by decide) rfl ?_
  intro p e s m args below meth c s₁ B hml hv
  obtain ⟨rfl, hR, hK, hZ⟩ := hv
  have hx := B.exec
  have hb := B.bytes
  have hr := B.returns
  have hlocks := B.notSynchronized
  have hts := atoms_spec (ws := (ws_ yX4_of cX4_of 3 (some .int))) B.pre
  have hts : ∀ w ∈ lw_all, w.before _ s = true := fun w h => hts w (List.mem_cons_of_mem _ h)
  have hown : s.vm.findClass RX4 = some m.cls := findClass_of_methodNamed B.named
  have hw : ep_W G ep_cl h s s.heap [] := ⟨hR, va_S.rf⟩
  have hl := lv_entry ([.ref a0, .int x1, .int x2]) (n := 3) (Nat.le_of_ble_eq_true rfl)
  rw [lg_entry_eq]
  generalize (lg_sl ([.ref a0, .int x1, .int x2]) ++ List.replicate (3 - (lg_sl ([.ref a0, .int x1, .int x2])).length) Slot.unset).toArray = ls at hl ⊢
  have hl : lv_has ls 3 [(0, .ref a0), (1, .int x1), (2, .int x2)] := hl
  unfold fX4_of at hf
  have hf := (oi_c hf).2
  show wX4_of p l e s m below meth c G h a0 x1 x2 res 0 0 s.heap ([]) (F0 m 0 ls [])
  refine lv_aload_n hx hb dX4_of_0 rfl (lv_at hl 0 rfl) ?_
  obtain ⟨r1, er1, hf⟩ := ob_s hf
  refine ep_get (C := RX4) (T := TX4) (N := 32) (ci := 4) hx hb hts in_X4 hown hK hw rfl 1 (by decide) q1140 (gR_f er1) dX4_of_1 ?_
  refine lv_bipush (v := iI 8) hx hb dX4_of_4 (by decide) ?_
  refine lv_bipush (v := iI 9) hx hb dX4_of_6 (by decide) ?_
  refine lv_iload_n hx hb dX4_of_8 rfl (lv_at hl 1 rfl) ?_
  refine lv_imul hx hb dX4_of_9 ?_
  refine lv_iadd hx hb dX4_of_10 ?_
  refine lv_iload_n hx hb dX4_of_11 rfl (lv_at hl 2 rfl) ?_
  refine lv_iadd hx hb dX4_of_12 ?_
  obtain ⟨v2, ev2, hf⟩ := ob_s hf
  refine ep_iald hx hb hK hw ev2 dX4_of_13 ?_
  exact ep_retiR hx hb hr hlocks hw hf dX4_of_14
theorem hdX4_inPen : yX4_inPen.cls = RX4 ∧ yX4_inPen.cls ≠ "java/lang/invoke/MethodHandle" ∧ yX4_inPen.cls ≠ "java/lang/invoke/VarHandle" ∧ (parseMethodDescriptor yX4_inPen.desc).map (fun d => d.parameters.length) = some 1 := by decide +kernel
theorem ckX4_inPen {h : Hp} {a0 : Nat} {x1 : Int32} {res : Int32} (hf : fX4_inPen h a0 x1 = some res) : ep_cls h a0 = some 4 := by
  unfold fX4_inPen at hf
  exact (oi_c hf).1
abbrev wX4_inPen (p : Program) (l : Launch) (e : Env) (s : State) (m : MethodId) (below : List Frame) (meth : Method) (c : Code) (G : EG) (h : Hp) (a0 : Nat) (x1 : Int32) (res : Int32) (k9 n9 : Nat) (H : Heap) (locs : List Loc) (g : JFrame) : Prop := W p l e (headSpec (ws_ yX4_inPen cX4_inPen 4 (some .int)) ({ frames := 1, cells := 0, slots := 0, locals := 22 } : Room)).room s m ([.ref a0, .int x1] : List Value).toArray below meth c H locs k9 n9 (MQ below (ep_Qi G ep_cl h res) ([.ref a0, .int x1] : List Value).toArray s 0 0 (ep_A G)) g
set_option maxHeartbeats 4000000 in
theorem metX4_inPen (l : Launch) (G : EG) (h : Hp) (a0 : Nat) (x1 : Int32) {res : Int32} (hf : fX4_inPen h a0 x1 = some res) : Met l yX4_inPen (ws_ yX4_inPen cX4_inPen 4 (some .int)) ({ frames := 1, cells := 0, slots := 0, locals := 22 } : Room) (ep_Pc G ep_cl h [.ref a0, .int x1]) (ep_Qi G ep_cl h res) 0 0 (ep_A G) := by
  refine Met.ofW (cc := cX4_inPen) (maxL := 4) (ret := (some .int)) (by decide) rfl ?_
  intro p e s m args below meth c s₁ B hml hv
  obtain ⟨rfl, hR, hK, hZ⟩ := hv
  have hx := B.exec
  have hb := B.bytes
  have hr := B.returns
  have hlocks := B.notSynchronized
  have hts := atoms_spec (ws := (ws_ yX4_inPen cX4_inPen 4 (some .int))) B.pre
  have hts : ∀ w ∈ lw_all, w.before _ s = true := fun w h => hts w (List.mem_cons_of_mem _ h)
  have hown : s.vm.findClass RX4 = some m.cls := findClass_of_methodNamed B.named
  have hw : ep_W G ep_cl h s s.heap [] := ⟨hR, va_S.rf⟩
  have hl := lv_entry ([.ref a0, .int x1]) (n := 4) (Nat.le_of_ble_eq_true rfl)
  rw [lg_entry_eq]
  generalize (lg_sl ([.ref a0, .int x1]) ++ List.replicate (4 - (lg_sl ([.ref a0, .int x1])).length) Slot.unset).toArray = ls at hl ⊢
  have hl : lv_has ls 4 [(0, .ref a0), (1, .int x1)] := hl
  unfold fX4_inPen at hf
  have hf := (oi_c hf).2
  show wX4_inPen p l e s m below meth c G h a0 x1 res 0 0 s.heap ([]) (F0 m 0 ls [])
  refine lv_iconst (v := iI 0) hx hb dX4_inPen_0 rfl ?_
  refine lv_istore_n (lv' := [(2, .int (iI 0)), (0, .ref a0), (1, .int x1)]) hx hb dX4_inPen_1 rfl hl (by decide) rfl (fun ls hl => ?_)
  refine lv_iconst (v := iI 0) hx hb dX4_inPen_2 rfl ?_
  refine lv_istore_n (lv' := [(3, .int (iI 0)), (2, .int (iI 0)), (0, .ref a0), (1, .int x1)]) hx hb dX4_inPen_3 rfl hl (by decide) rfl (fun ls hl => ?_)
  obtain ⟨o1, ho1, hf⟩ := ob_s hf
  have hJ1 : ∀ (H : Heap) (locs : List Loc) (ls : Array Slot), ep_W G ep_cl h s H locs → lv_has ls 4 [(2, .int o1)] → wX4_inPen p l e s m below meth c G h a0 x1 res 0 0 H locs (F0 m 41 ls []) := by
    intro H locs ls hw hl
    refine lv_iload_n hx hb dX4_inPen_41 rfl (lv_at hl 0 rfl) ?_
    exact ep_retiR hx hb hr hlocks hw hf dX4_inPen_42
  have hL1 : ∀ (fu : Nat) (x2 : Int32) (x3 : Int32), fX4_inPen_L4 h a0 x1 fu x2 x3 = some o1 → ∀ (H : Heap) (locs : List Loc) (ls : Array Slot), ep_W G ep_cl h s H locs → lv_has ls 4 [(0, .ref a0), (1, .int x1), (2, .int x2), (3, .int x3)] → wX4_inPen p l e s m below meth c G h a0 x1 res 0 0 H locs (F0 m 4 ls []) := by
    intro fu
    induction fu with
    | zero => intro x2 x3 ho1; cases ho1
    | succ fu ih1 =>
      intro x2 x3 ho1 H locs ls hw hl
      rw [fX4_inPen_L4] at ho1
      refine lv_iload_n hx hb dX4_inPen_4 rfl (lv_at hl 3 rfl) ?_
      refine lv_aload_n hx hb dX4_inPen_5 rfl (lv_at hl 0 rfl) ?_
      obtain ⟨v2, ev2, ho1⟩ := ob_s ho1
      refine ep_get (C := RX4) (T := TX4) (N := 32) (ci := 4) hx hb hts in_X4 hown hK hw rfl 4 (by decide) q1143 (gI_f ev2) dX4_inPen_6 ?_
      refine lv_icmp_ge (tgt := 41) hx hb dX4_inPen_9 (by decide) (fun c3 => ?_) (fun c3 => ?_)
      · have ho1 := oi_t ho1 c3
        obtain rfl := Option.some.inj ho1
        exact hJ1 _ _ _ hw (lv_sub hl [2] rfl)
      · have ho1 := oi_f ho1 c3
        refine lv_iload_n hx hb dX4_inPen_12 rfl (lv_at hl 2 rfl) ?_
        refine lv_aload_n hx hb dX4_inPen_13 rfl (lv_at hl 0 rfl) ?_
        refine lv_iload_n hx hb dX4_inPen_14 rfl (lv_at hl 3 rfl) ?_
        refine lv_iconst (v := iI 2) hx hb dX4_inPen_15 rfl ?_
        obtain ⟨v4, ev4, ho1⟩ := ob_s ho1
        refine ep_calli0 (va_runV (As := [.int x3, .int (iI 2)]) (rest := [.int x2]) ⟨hx, hb, hml, hown, hts⟩ (metX4_of l G h a0 x3 (iI 2) ev4) (cwV 2 hts (lw_V q1327 q1329 qs50 q89 q1330) rfl rfl rfl hdX4_of ⟨Nat.le_of_ble_eq_true rfl, Nat.le_of_ble_eq_true rfl⟩) (ep_preV hK hZ hw rfl (ckX4_of ev4)) rfl rfl hl.1 rfl (lv_room (Nat.le_of_ble_eq_true rfl)) dX4_inPen_16 ⟨Nat.le_of_ble_eq_true rfl, Nat.le_of_ble_eq_true rfl⟩) hw (fun H locs hw => ?_)
        refine lv_iload_n hx hb dX4_inPen_19 rfl (lv_at hl 1 rfl) ?_
        have hJ5 : wX4_inPen p l e s m below meth c G h a0 x1 res 0 0 H locs (F0 m 28 ls [.int (if v4 = x1 then iI 1 else iI 0), .int x2]) := by
          obtain ⟨v7, ev7, ho1⟩ := ob_s ho1
          refine ep_calli0 (va_runS (As := [.int (if v4 = x1 then iI 1 else iI 0)]) (rest := [.int x2]) ⟨hx, hb, hml, hown, hts⟩ (metX4_flag l G h (if v4 = x1 then iI 1 else iI 0) ev7) (va_cwS 1 hts (lw_S q1308 q1309 q89 q1310) rfl rfl rfl hsX4_flag ⟨Nat.le_of_ble_eq_true rfl, Nat.le_of_ble_eq_true rfl⟩) (ep_preS hK hZ hw) rfl rfl hl.1 rfl (lv_room (Nat.le_of_ble_eq_true rfl)) dX4_inPen_28 ⟨Nat.le_of_ble_eq_true rfl, Nat.le_of_ble_eq_true rfl⟩) hw (fun H locs hw => ?_)
          refine lv_iload_n hx hb dX4_inPen_31 rfl (lv_at hl 3 rfl) ?_
          refine lv_ishl hx hb dX4_inPen_32 ?_
          refine lv_ior hx hb dX4_inPen_33 ?_
          refine lv_istore_n (lv' := [(2, .int (x2 ||| (v7 <<< (x3 &&& 31)))), (0, .ref a0), (1, .int x1), (3, .int x3)]) hx hb dX4_inPen_34 rfl hl (by decide) rfl (fun ls hl => ?_)
          refine lv_iinc (v := (x3 + iI 1)) (lv' := [(3, .int (x3 + iI 1)), (2, .int (x2 ||| (v7 <<< (x3 &&& 31)))), (0, .ref a0), (1, .int x1)]) hx hb dX4_inPen_35 hl (k := 3) rfl rfl (by decide) rfl (fun ls hl => ?_)
          refine lv_goto (tgt := 4) hx hb dX4_inPen_38 (by decide) ?_
          exact ih1 _ _ ho1 _ _ _ hw (lv_sub hl [2, 3, 1, 0] rfl)
        refine lv_icmp_ne (tgt := 27) hx hb dX4_inPen_20 (by decide) (fun c6 => ?_) (fun c6 => ?_)
        · refine lv_iconst (v := iI 0) hx hb dX4_inPen_27 rfl ?_
          rw [if_neg c6] at hJ5
          exact hJ5
        · refine lv_iconst (v := iI 1) hx hb dX4_inPen_23 rfl ?_
          refine lv_goto (tgt := 28) hx hb dX4_inPen_24 (by decide) ?_
          rw [if_pos c6] at hJ5
          exact hJ5
  exact hL1 FUEL _ _ ho1 _ _ _ hw (lv_sub hl [2, 3, 1, 0] rfl)
theorem hdX4_isSilent : yX4_isSilent.cls = RX4 ∧ yX4_isSilent.cls ≠ "java/lang/invoke/MethodHandle" ∧ yX4_isSilent.cls ≠ "java/lang/invoke/VarHandle" ∧ (parseMethodDescriptor yX4_isSilent.desc).map (fun d => d.parameters.length) = some 1 := by decide +kernel
theorem ckX4_isSilent {h : Hp} {a0 : Nat} {x1 : Int32} {res : Int32} (hf : fX4_isSilent h a0 x1 = some res) : ep_cls h a0 = some 4 := by
  unfold fX4_isSilent at hf
  exact (oi_c hf).1
abbrev wX4_isSilent (p : Program) (l : Launch) (e : Env) (s : State) (m : MethodId) (below : List Frame) (meth : Method) (c : Code) (G : EG) (h : Hp) (a0 : Nat) (x1 : Int32) (res : Int32) (k9 n9 : Nat) (H : Heap) (locs : List Loc) (g : JFrame) : Prop := W p l e (headSpec (ws_ yX4_isSilent cX4_isSilent 2 (some .boolean)) ({ frames := 1, cells := 0, slots := 0, locals := 22 } : Room)).room s m ([.ref a0, .int x1] : List Value).toArray below meth c H locs k9 n9 (MQ below (ep_Qi G ep_cl h res) ([.ref a0, .int x1] : List Value).toArray s 0 0 (ep_A G)) g
set_option maxHeartbeats 4000000 in
theorem metX4_isSilent (l : Launch) (G : EG) (h : Hp) (a0 : Nat) (x1 : Int32) {res : Int32} (hf : fX4_isSilent h a0 x1 = some res) : Met l yX4_isSilent (ws_ yX4_isSilent cX4_isSilent 2 (some .boolean)) ({ frames := 1, cells := 0, slots := 0, locals := 22 } : Room) (ep_Pc G ep_cl h [.ref a0, .int x1]) (ep_Qi G ep_cl h res) 0 0 (ep_A G) := by
  refine Met.ofW (cc := cX4_isSilent) (maxL := 2) (ret := (some .boolean)) (by decide) rfl ?_
  intro p e s m args below meth c s₁ B hml hv
  obtain ⟨rfl, hR, hK, hZ⟩ := hv
  have hx := B.exec
  have hb := B.bytes
  have hr := B.returns
  have hlocks := B.notSynchronized
  have hts := atoms_spec (ws := (ws_ yX4_isSilent cX4_isSilent 2 (some .boolean))) B.pre
  have hts : ∀ w ∈ lw_all, w.before _ s = true := fun w h => hts w (List.mem_cons_of_mem _ h)
  have hown : s.vm.findClass RX4 = some m.cls := findClass_of_methodNamed B.named
  have hw : ep_W G ep_cl h s s.heap [] := ⟨hR, va_S.rf⟩
  have hl := lv_entry ([.ref a0, .int x1]) (n := 2) (Nat.le_of_ble_eq_true rfl)
  rw [lg_entry_eq]
  generalize (lg_sl ([.ref a0, .int x1]) ++ List.replicate (2 - (lg_sl ([.ref a0, .int x1])).length) Slot.unset).toArray = ls at hl ⊢
  have hl : lv_has ls 2 [(0, .ref a0), (1, .int x1)] := hl
  unfold fX4_isSilent at hf
  have hf := (oi_c hf).2
  show wX4_isSilent p l e s m below meth c G h a0 x1 res 0 0 s.heap ([]) (F0 m 0 ls [])
  refine lv_aload_n hx hb dX4_isSilent_0 rfl (lv_at hl 0 rfl) ?_
  refine lv_iload_n hx hb dX4_isSilent_1 rfl (lv_at hl 1 rfl) ?_
  refine lv_iconst (v := iI 1) hx hb dX4_isSilent_2 rfl ?_
  obtain ⟨v1, ev1, hf⟩ := ob_s hf
  refine ep_calli0 (va_runV (As := [.int x1, .int (iI 1)]) (rest := []) ⟨hx, hb, hml, hown, hts⟩ (metX4_of l G h a0 x1 (iI 1) ev1) (cwV 2 hts (lw_V q1327 q1329 qs50 q89 q1330) rfl rfl rfl hdX4_of ⟨Nat.le_of_ble_eq_true rfl, Nat.le_of_ble_eq_true rfl⟩) (ep_preV hK hZ hw rfl (ckX4_of ev1)) rfl rfl hl.1 rfl (lv_room (Nat.le_of_ble_eq_true rfl)) dX4_isSilent_3 ⟨Nat.le_of_ble_eq_true rfl, Nat.le_of_ble_eq_true rfl⟩) hw (fun H locs hw => ?_)
  refine lv_if_eq (tgt := 18) hx hb dX4_isSilent_6 (by decide) (fun c2 => ?_) (fun c2 => ?_)
  · have hf := oi_t hf c2
    refine lv_iconst (v := iI 1) hx hb dX4_isSilent_18 rfl ?_
    refine lv_goto (tgt := 23) hx hb dX4_isSilent_19 (by decide) ?_
    exact ep_retzR hx hb hr rfl hlocks hw hf dX4_isSilent_23
  · have hf := oi_f hf c2
    refine lv_aload_n hx hb dX4_isSilent_9 rfl (lv_at hl 0 rfl) ?_
    refine lv_iload_n hx hb dX4_isSilent_10 rfl (lv_at hl 1 rfl) ?_
    refine lv_iconst (v := iI 3) hx hb dX4_isSilent_11 rfl ?_
    obtain ⟨v3, ev3, hf⟩ := ob_s hf
    refine ep_calli0 (va_runV (As := [.int x1, .int (iI 3)]) (rest := []) ⟨hx, hb, hml, hown, hts⟩ (metX4_of l G h a0 x1 (iI 3) ev3) (cwV 2 hts (lw_V q1327 q1329 qs50 q89 q1330) rfl rfl rfl hdX4_of ⟨Nat.le_of_ble_eq_true rfl, Nat.le_of_ble_eq_true rfl⟩) (ep_preV hK hZ hw rfl (ckX4_of ev3)) rfl rfl hl.1 rfl (lv_room (Nat.le_of_ble_eq_true rfl)) dX4_isSilent_12 ⟨Nat.le_of_ble_eq_true rfl, Nat.le_of_ble_eq_true rfl⟩) hw (fun H locs hw => ?_)
    refine lv_if_ne (tgt := 22) hx hb dX4_isSilent_15 (by decide) (fun c4 => ?_) (fun c4 => ?_)
    · have hf := oi_f hf c4
      refine lv_iconst (v := iI 0) hx hb dX4_isSilent_22 rfl ?_
      exact ep_retzR hx hb hr rfl hlocks hw hf dX4_isSilent_23
    · have hf := oi_t hf c4
      refine lv_iconst (v := iI 1) hx hb dX4_isSilent_18 rfl ?_
      refine lv_goto (tgt := 23) hx hb dX4_isSilent_19 (by decide) ?_
      exact ep_retzR hx hb hr rfl hlocks hw hf dX4_isSilent_23
theorem hdX4_silentNow : yX4_silentNow.cls = RX4 ∧ yX4_silentNow.cls ≠ "java/lang/invoke/MethodHandle" ∧ yX4_silentNow.cls ≠ "java/lang/invoke/VarHandle" ∧ (parseMethodDescriptor yX4_silentNow.desc).map (fun d => d.parameters.length) = some 0 := by decide +kernel
theorem ckX4_silentNow {h : Hp} {a0 : Nat} {res : Int32} (hf : fX4_silentNow h a0 = some res) : ep_cls h a0 = some 4 := by
  unfold fX4_silentNow at hf
  exact (oi_c hf).1
abbrev wX4_silentNow (p : Program) (l : Launch) (e : Env) (s : State) (m : MethodId) (below : List Frame) (meth : Method) (c : Code) (G : EG) (h : Hp) (a0 : Nat) (res : Int32) (k9 n9 : Nat) (H : Heap) (locs : List Loc) (g : JFrame) : Prop := W p l e (headSpec (ws_ yX4_silentNow cX4_silentNow 3 (some .int)) ({ frames := 2, cells := 0, slots := 0, locals := 43 } : Room)).room s m ([.ref a0] : List Value).toArray below meth c H locs k9 n9 (MQ below (ep_Qi G ep_cl h res) ([.ref a0] : List Value).toArray s 0 0 (ep_A G)) g
set_option maxHeartbeats 4000000 in
theorem metX4_silentNow (l : Launch) (G : EG) (h : Hp) (a0 : Nat) {res : Int32} (hf : fX4_silentNow h a0 = some res) : Met l yX4_silentNow (ws_ yX4_silentNow cX4_silentNow 3 (some .int)) ({ frames := 2, cells := 0, slots := 0, locals := 43 } : Room) (ep_Pc G ep_cl h [.ref a0]) (ep_Qi G ep_cl h res) 0 0 (ep_A G) := by
  refine Met.ofW (cc := cX4_silentNow) (maxL := 3) (ret := (some .int)) (by decide) rfl ?_
  intro p e s m args below meth c s₁ B hml hv
  obtain ⟨rfl, hR, hK, hZ⟩ := hv
  have hx := B.exec
  have hb := B.bytes
  have hr := B.returns
  have hlocks := B.notSynchronized
  have hts := atoms_spec (ws := (ws_ yX4_silentNow cX4_silentNow 3 (some .int))) B.pre
  have hts : ∀ w ∈ lw_all, w.before _ s = true := fun w h => hts w (List.mem_cons_of_mem _ h)
  have hown : s.vm.findClass RX4 = some m.cls := findClass_of_methodNamed B.named
  have hw : ep_W G ep_cl h s s.heap [] := ⟨hR, va_S.rf⟩
  have hl := lv_entry ([.ref a0]) (n := 3) (Nat.le_of_ble_eq_true rfl)
  rw [lg_entry_eq]
  generalize (lg_sl ([.ref a0]) ++ List.replicate (3 - (lg_sl ([.ref a0])).length) Slot.unset).toArray = ls at hl ⊢
  have hl : lv_has ls 3 [(0, .ref a0)] := hl
  unfold fX4_silentNow at hf
  have hf := (oi_c hf).2
  show wX4_silentNow p l e s m below meth c G h a0 res 0 0 s.heap ([]) (F0 m 0 ls [])
  refine lv_iconst (v := iI 0) hx hb dX4_silentNow_0 rfl ?_
  refine lv_istore_n (lv' := [(1, .int (iI 0)), (0, .ref a0)]) hx hb dX4_silentNow_1 rfl hl (by decide) rfl (fun ls hl => ?_)
  refine lv_iconst (v := iI 0) hx hb dX4_silentNow_2 rfl ?_
  refine lv_istore_n (lv' := [(2, .int (iI 0)), (1, .int (iI 0)), (0, .ref a0)]) hx hb dX4_silentNow_3 rfl hl (by decide) rfl (fun ls hl => ?_)
  obtain ⟨o1, ho1, hf⟩ := ob_s hf
  have hJ1 : ∀ (H : Heap) (locs : List Loc) (ls : Array Slot), ep_W G ep_cl h s H locs → lv_has ls 3 [(1, .int o1)] → wX4_silentNow p l e s m below meth c G h a0 res 0 0 H locs (F0 m 31 ls []) := by
    intro H locs ls hw hl
    refine lv_iload_n hx hb dX4_silentNow_31 rfl (lv_at hl 0 rfl) ?_
    exact ep_retiR hx hb hr hlocks hw hf dX4_silentNow_32
  have hL1 : ∀ (fu : Nat) (x1 : Int32) (x2 : Int32), fX4_silentNow_L4 h a0 fu x1 x2 = some o1 → ∀ (H : Heap) (locs : List Loc) (ls : Array Slot), ep_W G ep_cl h s H locs → lv_has ls 3 [(0, .ref a0), (1, .int x1), (2, .int x2)] → wX4_silentNow p l e s m below meth c G h a0 res 0 0 H locs (F0 m 4 ls []) := by
    intro fu
    induction fu with
    | zero => intro x1 x2 ho1; cases ho1
    | succ fu ih1 =>
      intro x1 x2 ho1 H locs ls hw hl
      rw [fX4_silentNow_L4] at ho1
      refine lv_iload_n hx hb dX4_silentNow_4 rfl (lv_at hl 2 rfl) ?_
      refine lv_aload_n hx hb dX4_silentNow_5 rfl (lv_at hl 0 rfl) ?_
      obtain ⟨v2, ev2, ho1⟩ := ob_s ho1
      refine ep_get (C := RX4) (T := TX4) (N := 32) (ci := 4) hx hb hts in_X4 hown hK hw rfl 4 (by decide) q1143 (gI_f ev2) dX4_silentNow_6 ?_
      refine lv_icmp_ge (tgt := 31) hx hb dX4_silentNow_9 (by decide) (fun c3 => ?_) (fun c3 => ?_)
      · have ho1 := oi_t ho1 c3
        obtain rfl := Option.some.inj ho1
        exact hJ1 _ _ _ hw (lv_sub hl [1] rfl)
      · have ho1 := oi_f ho1 c3
        refine lv_iload_n hx hb dX4_silentNow_12 rfl (lv_at hl 1 rfl) ?_
        refine lv_aload_n hx hb dX4_silentNow_13 rfl (lv_at hl 0 rfl) ?_
        refine lv_iload_n hx hb dX4_silentNow_14 rfl (lv_at hl 2 rfl) ?_
        obtain ⟨v4, ev4, ho1⟩ := ob_s ho1
        refine ep_calli0 (va_runV (As := [.int x2]) (rest := [.int x1]) ⟨hx, hb, hml, hown, hts⟩ (metX4_isSilent l G h a0 x2 ev4) (cwV 1 hts (lw_V q1335 q1337 qs52 q89 q1338) rfl rfl rfl hdX4_isSilent ⟨Nat.le_of_ble_eq_true rfl, Nat.le_of_ble_eq_true rfl⟩) (ep_preV hK hZ hw rfl (ckX4_isSilent ev4)) rfl rfl hl.1 rfl (lv_room (Nat.le_of_ble_eq_true rfl)) dX4_silentNow_15 ⟨Nat.le_of_ble_eq_true rfl, Nat.le_of_ble_eq_true rfl⟩) hw (fun H locs hw => ?_)
        obtain ⟨v5, ev5, ho1⟩ := ob_s ho1
        refine ep_calli0 (va_runS (As := [.int v4]) (rest := [.int x1]) ⟨hx, hb, hml, hown, hts⟩ (metX4_flag l G h v4 ev5) (va_cwS 1 hts (lw_S q1308 q1309 q89 q1310) rfl rfl rfl hsX4_flag ⟨Nat.le_of_ble_eq_true rfl, Nat.le_of_ble_eq_true rfl⟩) (ep_preS hK hZ hw) rfl rfl hl.1 rfl (lv_room (Nat.le_of_ble_eq_true rfl)) dX4_silentNow_18 ⟨Nat.le_of_ble_eq_true rfl, Nat.le_of_ble_eq_true rfl⟩) hw (fun H locs hw => ?_)
        refine lv_iload_n hx hb dX4_silentNow_21 rfl (lv_at hl 2 rfl) ?_
        refine lv_ishl hx hb dX4_silentNow_22 ?_
        refine lv_ior hx hb dX4_silentNow_23 ?_
        refine lv_istore_n (lv' := [(1, .int (x1 ||| (v5 <<< (x2 &&& 31)))), (0, .ref a0), (2, .int x2)]) hx hb dX4_silentNow_24 rfl hl (by decide) rfl (fun ls hl => ?_)
        refine lv_iinc (v := (x2 + iI 1)) (lv' := [(2, .int (x2 + iI 1)), (1, .int (x1 ||| (v5 <<< (x2 &&& 31)))), (0, .ref a0)]) hx hb dX4_silentNow_25 hl (k := 2) rfl rfl (by decide) rfl (fun ls hl => ?_)
        refine lv_goto (tgt := 4) hx hb dX4_silentNow_28 (by decide) ?_
        exact ih1 _ _ ho1 _ _ _ hw (lv_sub hl [2, 1, 0] rfl)
  exact hL1 FUEL _ _ ho1 _ _ _ hw (lv_sub hl [2, 1, 0] rfl)
theorem hdX4_rule : yX4_rule.cls = RX4 ∧ yX4_rule.cls ≠ "java/lang/invoke/MethodHandle" ∧ yX4_rule.cls ≠ "java/lang/invoke/VarHandle" ∧ (parseMethodDescriptor yX4_rule.desc).map (fun d => d.parameters.length) = some 1 := by decide +kernel
theorem ckX4_rule {h : Hp} {a0 : Nat} {x1 : Int32} {res : Int32 × Hp} (hf : fX4_rule h a0 x1 = some res) : ep_cls h a0 = some 4 := by
  unfold fX4_rule at hf
  exact (oi_c hf).1
abbrev wX4_rule (p : Program) (l : Launch) (e : Env) (s : State) (m : MethodId) (below : List Frame) (meth : Method) (c : Code) (G : EG) (h : Hp) (a0 : Nat) (x1 : Int32) (res : Int32 × Hp) (k9 n9 : Nat) (H : Heap) (locs : List Loc) (g : JFrame) : Prop := W p l e (headSpec (ws_ yX4_rule cX4_rule 2 (some .int)) ({ frames := 3, cells := 0, slots := 0, locals := 65 } : Room)).room s m ([.ref a0, .int x1] : List Value).toArray below meth c H locs k9 n9 (MQ below (ep_Qi G ep_cl res.2 res.1) ([.ref a0, .int x1] : List Value).toArray s 0 0 (ep_A G)) g
set_option maxHeartbeats 4000000 in
theorem metX4_rule (l : Launch) (G : EG) (h : Hp) (a0 : Nat) (x1 : Int32) {res : Int32 × Hp} (hf : fX4_rule h a0 x1 = some res) : Met l yX4_rule (ws_ yX4_rule cX4_rule 2 (some .int)) ({ frames := 3, cells := 0, slots := 0, locals := 65 } : Room) (ep_Pc G ep_cl h [.ref a0, .int x1]) (ep_Qi G ep_cl res.2 res.1) 0 0 (ep_A G) := by
  refine Met.ofW (cc := cX4_rule) (maxL := 2) (ret := (some .int)) (by decide) rfl ?_
  intro p e s m args below meth c s₁ B hml hv
  obtain ⟨rfl, hR, hK, hZ⟩ := hv
  have hx := B.exec
  have hb := B.bytes
  have hr := B.returns
  have hlocks := B.notSynchronized
  have hts := atoms_spec (ws := (ws_ yX4_rule cX4_rule 2 (some .int))) B.pre
  have hts : ∀ w ∈ lw_all, w.before _ s = true := fun w h => hts w (List.mem_cons_of_mem _ h)
  have hown : s.vm.findClass RX4 = some m.cls := findClass_of_methodNamed B.named
  have hw : ep_W G ep_cl h s s.heap [] := ⟨hR, va_S.rf⟩
  have hl := lv_entry ([.ref a0, .int x1]) (n := 2) (Nat.le_of_ble_eq_true rfl)
  rw [lg_entry_eq]
  generalize (lg_sl ([.ref a0, .int x1]) ++ List.replicate (2 - (lg_sl ([.ref a0, .int x1])).length) Slot.unset).toArray = ls at hl ⊢
  have hl : lv_has ls 2 [(0, .ref a0), (1, .int x1)] := hl
  unfold fX4_rule at hf
  have hf := (oi_c hf).2
  show wX4_rule p l e s m below meth c G h a0 x1 res 0 0 s.heap ([]) (F0 m 0 ls [])
  refine lv_aload_n hx hb dX4_rule_0 rfl (lv_at hl 0 rfl) ?_
  obtain ⟨o1, eo1, hf⟩ := ob_s hf
  refine ep_callv0 (va_runV (As := []) (rest := []) ⟨hx, hb, hml, hown, hts⟩ (metX4_starts l G h a0 eo1) (cwV 0 hts (lw_V q1319 q1321 qs48 q89 q1322) rfl rfl rfl hdX4_starts ⟨Nat.le_of_ble_eq_true rfl, Nat.le_of_ble_eq_true rfl⟩) (ep_preV hK hZ hw rfl (ckX4_starts eo1)) rfl rfl hl.1 rfl (lv_room (Nat.le_of_ble_eq_true rfl)) dX4_rule_1 ⟨Nat.le_of_ble_eq_true rfl, Nat.le_of_ble_eq_true rfl⟩) hw (fun H locs hw => ?_)
  refine lv_iload_n hx hb dX4_rule_4 rfl (lv_at hl 1 rfl) ?_
  by_cases c2 : x1 = iI 0
  · have hf := oi_t hf c2
    refine lv_tableIn (off := 47) (tgt := 52) hx hb dX4_rule_5 (by rw [ep_swIn c2 (by decide)]; decide) (by rw [ep_swIn c2 (by decide)]; decide) (by rw [ep_swIn c2 (by decide)]; rfl) (by decide) ?_
    refine lv_aload_n hx hb dX4_rule_52 rfl (lv_at hl 0 rfl) ?_
    obtain ⟨v10, ev10, hf⟩ := ob_s hf
    refine ep_get (C := RX4) (T := TX4) (N := 32) (ci := 4) hx hb hts in_X4 hown hK hw rfl 3 (by decide) q1142 (gI_f ev10) dX4_rule_53 ?_
    exact ep_retiW hx hb hr hlocks hw hf dX4_rule_56
  · have hf := oi_f hf c2
    by_cases c3 : x1 = iI 1
    · have hf := oi_t hf c3
      refine lv_tableIn (off := 52) (tgt := 57) hx hb dX4_rule_5 (by rw [ep_swIn c3 (by decide)]; decide) (by rw [ep_swIn c3 (by decide)]; decide) (by rw [ep_swIn c3 (by decide)]; rfl) (by decide) ?_
      refine lv_aload_n hx hb dX4_rule_57 rfl (lv_at hl 0 rfl) ?_
      obtain ⟨v11, ev11, hf⟩ := ob_s hf
      refine ep_get (C := RX4) (T := TX4) (N := 32) (ci := 4) hx hb hts in_X4 hown hK hw rfl 4 (by decide) q1143 (gI_f ev11) dX4_rule_58 ?_
      exact ep_retiW hx hb hr hlocks hw hf dX4_rule_61
    · have hf := oi_f hf c3
      by_cases c4 : x1 = iI 2
      · have hf := oi_t hf c4
        refine lv_tableIn (off := 57) (tgt := 62) hx hb dX4_rule_5 (by rw [ep_swIn c4 (by decide)]; decide) (by rw [ep_swIn c4 (by decide)]; decide) (by rw [ep_swIn c4 (by decide)]; rfl) (by decide) ?_
        refine lv_aload_n hx hb dX4_rule_62 rfl (lv_at hl 0 rfl) ?_
        obtain ⟨v12, ev12, hf⟩ := ob_s hf
        refine ep_get (C := RX4) (T := TX4) (N := 32) (ci := 4) hx hb hts in_X4 hown hK hw rfl 5 (by decide) q1144 (gI_f ev12) dX4_rule_63 ?_
        exact ep_retiW hx hb hr hlocks hw hf dX4_rule_66
      · have hf := oi_f hf c4
        by_cases c5 : x1 = iI 3
        · have hf := oi_t hf c5
          refine lv_tableIn (off := 62) (tgt := 67) hx hb dX4_rule_5 (by rw [ep_swIn c5 (by decide)]; decide) (by rw [ep_swIn c5 (by decide)]; decide) (by rw [ep_swIn c5 (by decide)]; rfl) (by decide) ?_
          refine lv_aload_n hx hb dX4_rule_67 rfl (lv_at hl 0 rfl) ?_
          obtain ⟨r13, er13, hf⟩ := ob_s hf
          refine ep_get (C := RX4) (T := TX4) (N := 32) (ci := 4) hx hb hts in_X4 hown hK hw rfl 0 (by decide) q1139 (gR_f er13) dX4_rule_68 ?_
          refine lv_bipush (v := iI 54) hx hb dX4_rule_71 (by decide) ?_
          obtain ⟨v14, ev14, hf⟩ := ob_s hf
          refine ep_iald hx hb hK hw ev14 dX4_rule_73 ?_
          exact ep_retiW hx hb hr hlocks hw hf dX4_rule_74
        · have hf := oi_f hf c5
          by_cases c6 : x1 = iI 4
          · have hf := oi_t hf c6
            refine lv_tableIn (off := 70) (tgt := 75) hx hb dX4_rule_5 (by rw [ep_swIn c6 (by decide)]; decide) (by rw [ep_swIn c6 (by decide)]; decide) (by rw [ep_swIn c6 (by decide)]; rfl) (by decide) ?_
            refine lv_aload_n hx hb dX4_rule_75 rfl (lv_at hl 0 rfl) ?_
            obtain ⟨r15, er15, hf⟩ := ob_s hf
            refine ep_get (C := RX4) (T := TX4) (N := 32) (ci := 4) hx hb hts in_X4 hown hK hw rfl 0 (by decide) q1139 (gR_f er15) dX4_rule_76 ?_
            refine lv_bipush (v := iI 55) hx hb dX4_rule_79 (by decide) ?_
            obtain ⟨v16, ev16, hf⟩ := ob_s hf
            refine ep_iald hx hb hK hw ev16 dX4_rule_81 ?_
            exact ep_retiW hx hb hr hlocks hw hf dX4_rule_82
          · have hf := oi_f hf c6
            by_cases c7 : x1 = iI 5
            · have hf := oi_t hf c7
              refine lv_tableIn (off := 78) (tgt := 83) hx hb dX4_rule_5 (by rw [ep_swIn c7 (by decide)]; decide) (by rw [ep_swIn c7 (by decide)]; decide) (by rw [ep_swIn c7 (by decide)]; rfl) (by decide) ?_
              refine lv_aload_n hx hb dX4_rule_83 rfl (lv_at hl 0 rfl) ?_
              refine lv_bipush (v := iI (-4)) hx hb dX4_rule_84 (by decide) ?_
              obtain ⟨v17, ev17, hf⟩ := ob_s hf
              refine ep_calli0 (va_runV (As := [.int (iI (-4))]) (rest := []) ⟨hx, hb, hml, hown, hts⟩ (metX4_inPen l G o1 a0 (iI (-4)) ev17) (cwV 1 hts (lw_V q1323 q1325 qs49 q89 q1326) rfl rfl rfl hdX4_inPen ⟨Nat.le_of_ble_eq_true rfl, Nat.le_of_ble_eq_true rfl⟩) (ep_preV hK hZ hw rfl (ckX4_inPen ev17)) rfl rfl hl.1 rfl (lv_room (Nat.le_of_ble_eq_true rfl)) dX4_rule_86 ⟨Nat.le_of_ble_eq_true rfl, Nat.le_of_ble_eq_true rfl⟩) hw (fun H locs hw => ?_)
              exact ep_retiW hx hb hr hlocks hw hf dX4_rule_89
            · have hf := oi_f hf c7
              by_cases c8 : x1 = iI 6
              · have hf := oi_t hf c8
                refine lv_tableIn (off := 85) (tgt := 90) hx hb dX4_rule_5 (by rw [ep_swIn c8 (by decide)]; decide) (by rw [ep_swIn c8 (by decide)]; decide) (by rw [ep_swIn c8 (by decide)]; rfl) (by decide) ?_
                refine lv_aload_n hx hb dX4_rule_90 rfl (lv_at hl 0 rfl) ?_
                obtain ⟨v18, ev18, hf⟩ := ob_s hf
                refine ep_calli0 (va_runV (As := []) (rest := []) ⟨hx, hb, hml, hown, hts⟩ (metX4_silentNow l G o1 a0 ev18) (cwV 0 hts (lw_V q1331 q1333 qs51 q89 q1334) rfl rfl rfl hdX4_silentNow ⟨Nat.le_of_ble_eq_true rfl, Nat.le_of_ble_eq_true rfl⟩) (ep_preV hK hZ hw rfl (ckX4_silentNow ev18)) rfl rfl hl.1 rfl (lv_room (Nat.le_of_ble_eq_true rfl)) dX4_rule_91 ⟨Nat.le_of_ble_eq_true rfl, Nat.le_of_ble_eq_true rfl⟩) hw (fun H locs hw => ?_)
                refine lv_aload_n hx hb dX4_rule_94 rfl (lv_at hl 0 rfl) ?_
                refine lv_bipush (v := iI (-4)) hx hb dX4_rule_95 (by decide) ?_
                obtain ⟨v19, ev19, hf⟩ := ob_s hf
                refine ep_calli0 (va_runV (As := [.int (iI (-4))]) (rest := [.int v18]) ⟨hx, hb, hml, hown, hts⟩ (metX4_inPen l G o1 a0 (iI (-4)) ev19) (cwV 1 hts (lw_V q1323 q1325 qs49 q89 q1326) rfl rfl rfl hdX4_inPen ⟨Nat.le_of_ble_eq_true rfl, Nat.le_of_ble_eq_true rfl⟩) (ep_preV hK hZ hw rfl (ckX4_inPen ev19)) rfl rfl hl.1 rfl (lv_room (Nat.le_of_ble_eq_true rfl)) dX4_rule_97 ⟨Nat.le_of_ble_eq_true rfl, Nat.le_of_ble_eq_true rfl⟩) hw (fun H locs hw => ?_)
                refine lv_iconst (v := iI (-1)) hx hb dX4_rule_100 rfl ?_
                refine lv_ixor hx hb dX4_rule_101 ?_
                refine lv_iand hx hb dX4_rule_102 ?_
                exact ep_retiW hx hb hr hlocks hw hf dX4_rule_103
              · have hf := oi_f hf c8
                by_cases c9 : x1 = iI 7
                · have hf := oi_t hf c9
                  refine lv_tableIn (off := 99) (tgt := 104) hx hb dX4_rule_5 (by rw [ep_swIn c9 (by decide)]; decide) (by rw [ep_swIn c9 (by decide)]; decide) (by rw [ep_swIn c9 (by decide)]; rfl) (by decide) ?_
                  refine lv_aload_n hx hb dX4_rule_104 rfl (lv_at hl 0 rfl) ?_
                  obtain ⟨r20, er20, hf⟩ := ob_s hf
                  refine ep_get (C := RX4) (T := TX4) (N := 32) (ci := 4) hx hb hts in_X4 hown hK hw rfl 0 (by decide) q1139 (gR_f er20) dX4_rule_105 ?_
                  refine lv_bipush (v := iI 53) hx hb dX4_rule_108 (by decide) ?_
                  obtain ⟨v21, ev21, hf⟩ := ob_s hf
                  refine ep_iald hx hb hK hw ev21 dX4_rule_110 ?_
                  exact ep_retiW hx hb hr hlocks hw hf dX4_rule_111
                · have hf := oi_f hf c9
                  refine lv_tableOut (tgt := 112) hx hb dX4_rule_5 (ep_swOut (n := 8) (x := x1) (by decide) (lt_s (lt_s (lt_s (lt_s (lt_s (lt_s (lt_s (lt_s lt_0 c2) c3) c4) c5) c6) c7) c8) c9)) (by decide) ?_
                  refine lv_iconst (v := iI (-1)) hx hb dX4_rule_112 rfl ?_
                  exact ep_retiW hx hb hr hlocks hw hf dX4_rule_113
theorem hdX4_isPen : yX4_isPen.cls = RX4 ∧ yX4_isPen.cls ≠ "java/lang/invoke/MethodHandle" ∧ yX4_isPen.cls ≠ "java/lang/invoke/VarHandle" ∧ (parseMethodDescriptor yX4_isPen.desc).map (fun d => d.parameters.length) = some 1 := by decide +kernel
theorem ckX4_isPen {h : Hp} {a0 : Nat} {x1 : Int32} {res : Int32} (hf : fX4_isPen h a0 x1 = some res) : ep_cls h a0 = some 4 := by
  unfold fX4_isPen at hf
  exact (oi_c hf).1
abbrev wX4_isPen (p : Program) (l : Launch) (e : Env) (s : State) (m : MethodId) (below : List Frame) (meth : Method) (c : Code) (G : EG) (h : Hp) (a0 : Nat) (x1 : Int32) (res : Int32) (k9 n9 : Nat) (H : Heap) (locs : List Loc) (g : JFrame) : Prop := W p l e (headSpec (ws_ yX4_isPen cX4_isPen 2 (some .boolean)) ({ frames := 1, cells := 0, slots := 0, locals := 25 } : Room)).room s m ([.ref a0, .int x1] : List Value).toArray below meth c H locs k9 n9 (MQ below (ep_Qi G ep_cl h res) ([.ref a0, .int x1] : List Value).toArray s 0 0 (ep_A G)) g
set_option maxHeartbeats 4000000 in
theorem metX4_isPen (l : Launch) (G : EG) (h : Hp) (a0 : Nat) (x1 : Int32) {res : Int32} (hf : fX4_isPen h a0 x1 = some res) : Met l yX4_isPen (ws_ yX4_isPen cX4_isPen 2 (some .boolean)) ({ frames := 1, cells := 0, slots := 0, locals := 25 } : Room) (ep_Pc G ep_cl h [.ref a0, .int x1]) (ep_Qi G ep_cl h res) 0 0 (ep_A G) := by
  refine Met.ofW (cc := cX4_isPen) (maxL := 2) (ret := (some .boolean)) (by decide) rfl ?_
  intro p e s m args below meth c s₁ B hml hv
  obtain ⟨rfl, hR, hK, hZ⟩ := hv
  have hx := B.exec
  have hb := B.bytes
  have hr := B.returns
  have hlocks := B.notSynchronized
  have hts := atoms_spec (ws := (ws_ yX4_isPen cX4_isPen 2 (some .boolean))) B.pre
  have hts : ∀ w ∈ lw_all, w.before _ s = true := fun w h => hts w (List.mem_cons_of_mem _ h)
  have hown : s.vm.findClass RX4 = some m.cls := findClass_of_methodNamed B.named
  have hw : ep_W G ep_cl h s s.heap [] := ⟨hR, va_S.rf⟩
  have hl := lv_entry ([.ref a0, .int x1]) (n := 2) (Nat.le_of_ble_eq_true rfl)
  rw [lg_entry_eq]
  generalize (lg_sl ([.ref a0, .int x1]) ++ List.replicate (2 - (lg_sl ([.ref a0, .int x1])).length) Slot.unset).toArray = ls at hl ⊢
  have hl : lv_has ls 2 [(0, .ref a0), (1, .int x1)] := hl
  unfold fX4_isPen at hf
  have hf := (oi_c hf).2
  show wX4_isPen p l e s m below meth c G h a0 x1 res 0 0 s.heap ([]) (F0 m 0 ls [])
  refine lv_iload_n hx hb dX4_isPen_0 rfl (lv_at hl 1 rfl) ?_
  refine lv_i2l (v := x1.toInt64) hx hb dX4_isPen_1 rfl ?_
  refine lv_lconst (v := lI 0) hx hb dX4_isPen_2 (by decide) ?_
  refine lv_aload_n hx hb dX4_isPen_3 rfl (lv_at hl 0 rfl) ?_
  obtain ⟨v1, ev1, hf⟩ := ob_s hf
  refine ep_get (C := RX4) (T := TX4) (N := 32) (ci := 4) hx hb hts in_X4 hown hK hw rfl 3 (by decide) q1142 (gI_f ev1) dX4_isPen_4 ?_
  refine lv_iconst (v := iI 1) hx hb dX4_isPen_7 rfl ?_
  refine lv_isub hx hb dX4_isPen_8 ?_
  refine lv_i2l (v := (v1 - (iI 1)).toInt64) hx hb dX4_isPen_9 rfl ?_
  obtain ⟨v2, ev2, hf⟩ := ob_s hf
  refine ep_calli0 (va_runS (As := [.long x1.toInt64, .long (lI 0), .long ((v1 - (iI 1)).toInt64)]) (rest := []) ⟨hx, hb, hml, hown, hts⟩ (metX4_in l G h x1.toInt64 (lI 0) ((v1 - (iI 1)).toInt64) ev2) (va_cwS 3 hts (lw_S q1242 q1243 q89 q1244) rfl rfl rfl hsX4_in ⟨Nat.le_of_ble_eq_true rfl, Nat.le_of_ble_eq_true rfl⟩) (ep_preS hK hZ hw) rfl rfl hl.1 rfl (lv_room (Nat.le_of_ble_eq_true rfl)) dX4_isPen_10 ⟨Nat.le_of_ble_eq_true rfl, Nat.le_of_ble_eq_true rfl⟩) hw (fun H locs hw => ?_)
  obtain ⟨z, ez, hf⟩ := ob_s hf
  obtain ⟨hz, hn⟩ := ckZ_s ez
  rw [hz] at hf
  exact ep_retzR hx hb hr hn hlocks hw hf dX4_isPen_13
theorem hdX4_pen : yX4_pen.cls = RX4 ∧ yX4_pen.cls ≠ "java/lang/invoke/MethodHandle" ∧ yX4_pen.cls ≠ "java/lang/invoke/VarHandle" ∧ (parseMethodDescriptor yX4_pen.desc).map (fun d => d.parameters.length) = some 2 := by decide +kernel
theorem ckX4_pen {h : Hp} {a0 : Nat} {x1 : Int32} {x2 : Int32} {res : Int32 × Hp} (hf : fX4_pen h a0 x1 x2 = some res) : ep_cls h a0 = some 4 := by
  unfold fX4_pen at hf
  exact (oi_c hf).1
abbrev wX4_pen (p : Program) (l : Launch) (e : Env) (s : State) (m : MethodId) (below : List Frame) (meth : Method) (c : Code) (G : EG) (h : Hp) (a0 : Nat) (x1 : Int32) (x2 : Int32) (res : Int32 × Hp) (k9 n9 : Nat) (H : Heap) (locs : List Loc) (g : JFrame) : Prop := W p l e (headSpec (ws_ yX4_pen cX4_pen 3 (some .int)) ({ frames := 2, cells := 0, slots := 0, locals := 46 } : Room)).room s m ([.ref a0, .int x1, .int x2] : List Value).toArray below meth c H locs k9 n9 (MQ below (ep_Qi G ep_cl res.2 res.1) ([.ref a0, .int x1, .int x2] : List Value).toArray s 0 0 (ep_A G)) g
set_option maxHeartbeats 4000000 in
theorem metX4_pen (l : Launch) (G : EG) (h : Hp) (a0 : Nat) (x1 : Int32) (x2 : Int32) {res : Int32 × Hp} (hf : fX4_pen h a0 x1 x2 = some res) : Met l yX4_pen (ws_ yX4_pen cX4_pen 3 (some .int)) ({ frames := 2, cells := 0, slots := 0, locals := 46 } : Room) (ep_Pc G ep_cl h [.ref a0, .int x1, .int x2]) (ep_Qi G ep_cl res.2 res.1) 0 0 (ep_A G) := by
  refine Met.ofW (cc := cX4_pen) (maxL := 3) (ret := (some .int)) (by decide) rfl ?_
  intro p e s m args below meth c s₁ B hml hv
  obtain ⟨rfl, hR, hK, hZ⟩ := hv
  have hx := B.exec
  have hb := B.bytes
  have hr := B.returns
  have hlocks := B.notSynchronized
  have hts := atoms_spec (ws := (ws_ yX4_pen cX4_pen 3 (some .int))) B.pre
  have hts : ∀ w ∈ lw_all, w.before _ s = true := fun w h => hts w (List.mem_cons_of_mem _ h)
  have hown : s.vm.findClass RX4 = some m.cls := findClass_of_methodNamed B.named
  have hw : ep_W G ep_cl h s s.heap [] := ⟨hR, va_S.rf⟩
  have hl := lv_entry ([.ref a0, .int x1, .int x2]) (n := 3) (Nat.le_of_ble_eq_true rfl)
  rw [lg_entry_eq]
  generalize (lg_sl ([.ref a0, .int x1, .int x2]) ++ List.replicate (3 - (lg_sl ([.ref a0, .int x1, .int x2])).length) Slot.unset).toArray = ls at hl ⊢
  have hl : lv_has ls 3 [(0, .ref a0), (1, .int x1), (2, .int x2)] := hl
  unfold fX4_pen at hf
  have hf := (oi_c hf).2
  show wX4_pen p l e s m below meth c G h a0 x1 x2 res 0 0 s.heap ([]) (F0 m 0 ls [])
  refine lv_aload_n hx hb dX4_pen_0 rfl (lv_at hl 0 rfl) ?_
  refine lv_iload_n hx hb dX4_pen_1 rfl (lv_at hl 1 rfl) ?_
  obtain ⟨v1, ev1, hf⟩ := ob_s hf
  refine ep_calli0 (va_runV (As := [.int x1]) (rest := []) ⟨hx, hb, hml, hown, hts⟩ (metX4_isPen l G h a0 x1 ev1) (cwV 1 hts (lw_V q1343 q1345 qs53 q89 q1346) rfl rfl rfl hdX4_isPen ⟨Nat.le_of_ble_eq_true rfl, Nat.le_of_ble_eq_true rfl⟩) (ep_preV hK hZ hw rfl (ckX4_isPen ev1)) rfl rfl hl.1 rfl (lv_room (Nat.le_of_ble_eq_true rfl)) dX4_pen_2 ⟨Nat.le_of_ble_eq_true rfl, Nat.le_of_ble_eq_true rfl⟩) hw (fun H locs hw => ?_)
  refine lv_if_eq (tgt := 20) hx hb dX4_pen_5 (by decide) (fun c2 => ?_) (fun c2 => ?_)
  · have hf := oi_t hf c2
    refine lv_iconst (v := iI (-1)) hx hb dX4_pen_20 rfl ?_
    exact ep_retiW hx hb hr hlocks hw hf dX4_pen_21
  · have hf := oi_f hf c2
    refine lv_iload_n hx hb dX4_pen_8 rfl (lv_at hl 2 rfl) ?_
    refine lv_i2l (v := x2.toInt64) hx hb dX4_pen_9 rfl ?_
    refine lv_lconst (v := lI 0) hx hb dX4_pen_10 (by decide) ?_
    refine lv_ldc2 (v := (2 : Int64)) hx hb hown (hts _ q1347) dX4_pen_11 ?_
    obtain ⟨v3, ev3, hf⟩ := ob_s hf
    refine ep_calli0 (va_runS (As := [.long x2.toInt64, .long (lI 0), .long (2 : Int64)]) (rest := []) ⟨hx, hb, hml, hown, hts⟩ (metX4_in l G h x2.toInt64 (lI 0) (2 : Int64) ev3) (va_cwS 3 hts (lw_S q1242 q1243 q89 q1244) rfl rfl rfl hsX4_in ⟨Nat.le_of_ble_eq_true rfl, Nat.le_of_ble_eq_true rfl⟩) (ep_preS hK hZ hw) rfl rfl hl.1 rfl (lv_room (Nat.le_of_ble_eq_true rfl)) dX4_pen_14 ⟨Nat.le_of_ble_eq_true rfl, Nat.le_of_ble_eq_true rfl⟩) hw (fun H locs hw => ?_)
    refine lv_if_ne (tgt := 22) hx hb dX4_pen_17 (by decide) (fun c4 => ?_) (fun c4 => ?_)
    · have hf := oi_f hf c4
      refine lv_aload_n hx hb dX4_pen_22 rfl (lv_at hl 0 rfl) ?_
      obtain ⟨o5, eo5, hf⟩ := ob_s hf
      refine ep_callv0 (va_runV (As := []) (rest := []) ⟨hx, hb, hml, hown, hts⟩ (metX4_starts l G h a0 eo5) (cwV 0 hts (lw_V q1319 q1321 qs48 q89 q1322) rfl rfl rfl hdX4_starts ⟨Nat.le_of_ble_eq_true rfl, Nat.le_of_ble_eq_true rfl⟩) (ep_preV hK hZ hw rfl (ckX4_starts eo5)) rfl rfl hl.1 rfl (lv_room (Nat.le_of_ble_eq_true rfl)) dX4_pen_23 ⟨Nat.le_of_ble_eq_true rfl, Nat.le_of_ble_eq_true rfl⟩) hw (fun H locs hw => ?_)
      refine lv_iload_n hx hb dX4_pen_26 rfl (lv_at hl 2 rfl) ?_
      refine lv_iconst (v := iI 2) hx hb dX4_pen_27 rfl ?_
      refine lv_icmp_ge (tgt := 44) hx hb dX4_pen_28 (by decide) (fun c6 => ?_) (fun c6 => ?_)
      · have hf := oi_t hf c6
        refine lv_aload_n hx hb dX4_pen_44 rfl (lv_at hl 0 rfl) ?_
        refine lv_iload_n hx hb dX4_pen_45 rfl (lv_at hl 1 rfl) ?_
        obtain ⟨v7, ev7, hf⟩ := ob_s hf
        refine ep_calli0 (va_runV (As := [.int x1]) (rest := []) ⟨hx, hb, hml, hown, hts⟩ (metX4_inPen l G o5 a0 x1 ev7) (cwV 1 hts (lw_V q1323 q1325 qs49 q89 q1326) rfl rfl rfl hdX4_inPen ⟨Nat.le_of_ble_eq_true rfl, Nat.le_of_ble_eq_true rfl⟩) (ep_preV hK hZ hw rfl (ckX4_inPen ev7)) rfl rfl hl.1 rfl (lv_room (Nat.le_of_ble_eq_true rfl)) dX4_pen_46 ⟨Nat.le_of_ble_eq_true rfl, Nat.le_of_ble_eq_true rfl⟩) hw (fun H locs hw => ?_)
        exact ep_retiW hx hb hr hlocks hw hf dX4_pen_49
      · have hf := oi_f hf c6
        refine lv_aload_n hx hb dX4_pen_31 rfl (lv_at hl 0 rfl) ?_
        obtain ⟨r8, er8, hf⟩ := ob_s hf
        refine ep_get (C := RX4) (T := TX4) (N := 32) (ci := 4) hx hb hts in_X4 hown hK hw rfl 1 (by decide) q1140 (gR_f er8) dX4_pen_32 ?_
        refine lv_iconst (v := iI 2) hx hb dX4_pen_35 rfl ?_
        refine lv_iload_n hx hb dX4_pen_36 rfl (lv_at hl 1 rfl) ?_
        refine lv_imul hx hb dX4_pen_37 ?_
        refine lv_iload_n hx hb dX4_pen_38 rfl (lv_at hl 2 rfl) ?_
        refine lv_iadd hx hb dX4_pen_39 ?_
        obtain ⟨v9, ev9, hf⟩ := ob_s hf
        refine ep_iald hx hb hK hw ev9 dX4_pen_40 ?_
        refine lv_goto (tgt := 49) hx hb dX4_pen_41 (by decide) ?_
        exact ep_retiW hx hb hr hlocks hw hf dX4_pen_49
    · have hf := oi_t hf c4
      refine lv_iconst (v := iI (-1)) hx hb dX4_pen_20 rfl ?_
      exact ep_retiW hx hb hr hlocks hw hf dX4_pen_21
theorem hdX4_isEcho : yX4_isEcho.cls = RX4 ∧ yX4_isEcho.cls ≠ "java/lang/invoke/MethodHandle" ∧ yX4_isEcho.cls ≠ "java/lang/invoke/VarHandle" ∧ (parseMethodDescriptor yX4_isEcho.desc).map (fun d => d.parameters.length) = some 1 := by decide +kernel
theorem ckX4_isEcho {h : Hp} {a0 : Nat} {x1 : Int32} {res : Int32} (hf : fX4_isEcho h a0 x1 = some res) : ep_cls h a0 = some 4 := by
  unfold fX4_isEcho at hf
  exact (oi_c hf).1
abbrev wX4_isEcho (p : Program) (l : Launch) (e : Env) (s : State) (m : MethodId) (below : List Frame) (meth : Method) (c : Code) (G : EG) (h : Hp) (a0 : Nat) (x1 : Int32) (res : Int32) (k9 n9 : Nat) (H : Heap) (locs : List Loc) (g : JFrame) : Prop := W p l e (headSpec (ws_ yX4_isEcho cX4_isEcho 2 (some .boolean)) ({ frames := 1, cells := 0, slots := 0, locals := 25 } : Room)).room s m ([.ref a0, .int x1] : List Value).toArray below meth c H locs k9 n9 (MQ below (ep_Qi G ep_cl h res) ([.ref a0, .int x1] : List Value).toArray s 0 0 (ep_A G)) g
set_option maxHeartbeats 4000000 in
theorem metX4_isEcho (l : Launch) (G : EG) (h : Hp) (a0 : Nat) (x1 : Int32) {res : Int32} (hf : fX4_isEcho h a0 x1 = some res) : Met l yX4_isEcho (ws_ yX4_isEcho cX4_isEcho 2 (some .boolean)) ({ frames := 1, cells := 0, slots := 0, locals := 25 } : Room) (ep_Pc G ep_cl h [.ref a0, .int x1]) (ep_Qi G ep_cl h res) 0 0 (ep_A G) := by
  refine Met.ofW (cc := cX4_isEcho) (maxL := 2) (ret := (some .boolean)) (by decide) rfl ?_
  intro p e s m args below meth c s₁ B hml hv
  obtain ⟨rfl, hR, hK, hZ⟩ := hv
  have hx := B.exec
  have hb := B.bytes
  have hr := B.returns
  have hlocks := B.notSynchronized
  have hts := atoms_spec (ws := (ws_ yX4_isEcho cX4_isEcho 2 (some .boolean))) B.pre
  have hts : ∀ w ∈ lw_all, w.before _ s = true := fun w h => hts w (List.mem_cons_of_mem _ h)
  have hown : s.vm.findClass RX4 = some m.cls := findClass_of_methodNamed B.named
  have hw : ep_W G ep_cl h s s.heap [] := ⟨hR, va_S.rf⟩
  have hl := lv_entry ([.ref a0, .int x1]) (n := 2) (Nat.le_of_ble_eq_true rfl)
  rw [lg_entry_eq]
  generalize (lg_sl ([.ref a0, .int x1]) ++ List.replicate (2 - (lg_sl ([.ref a0, .int x1])).length) Slot.unset).toArray = ls at hl ⊢
  have hl : lv_has ls 2 [(0, .ref a0), (1, .int x1)] := hl
  unfold fX4_isEcho at hf
  have hf := (oi_c hf).2
  show wX4_isEcho p l e s m below meth c G h a0 x1 res 0 0 s.heap ([]) (F0 m 0 ls [])
  refine lv_iload_n hx hb dX4_isEcho_0 rfl (lv_at hl 1 rfl) ?_
  refine lv_i2l (v := x1.toInt64) hx hb dX4_isEcho_1 rfl ?_
  refine lv_lconst (v := lI 0) hx hb dX4_isEcho_2 (by decide) ?_
  refine lv_aload_n hx hb dX4_isEcho_3 rfl (lv_at hl 0 rfl) ?_
  obtain ⟨v1, ev1, hf⟩ := ob_s hf
  refine ep_get (C := RX4) (T := TX4) (N := 32) (ci := 4) hx hb hts in_X4 hown hK hw rfl 4 (by decide) q1143 (gI_f ev1) dX4_isEcho_4 ?_
  refine lv_iconst (v := iI 1) hx hb dX4_isEcho_7 rfl ?_
  refine lv_isub hx hb dX4_isEcho_8 ?_
  refine lv_i2l (v := (v1 - (iI 1)).toInt64) hx hb dX4_isEcho_9 rfl ?_
  obtain ⟨v2, ev2, hf⟩ := ob_s hf
  refine ep_calli0 (va_runS (As := [.long x1.toInt64, .long (lI 0), .long ((v1 - (iI 1)).toInt64)]) (rest := []) ⟨hx, hb, hml, hown, hts⟩ (metX4_in l G h x1.toInt64 (lI 0) ((v1 - (iI 1)).toInt64) ev2) (va_cwS 3 hts (lw_S q1242 q1243 q89 q1244) rfl rfl rfl hsX4_in ⟨Nat.le_of_ble_eq_true rfl, Nat.le_of_ble_eq_true rfl⟩) (ep_preS hK hZ hw) rfl rfl hl.1 rfl (lv_room (Nat.le_of_ble_eq_true rfl)) dX4_isEcho_10 ⟨Nat.le_of_ble_eq_true rfl, Nat.le_of_ble_eq_true rfl⟩) hw (fun H locs hw => ?_)
  obtain ⟨z, ez, hf⟩ := ob_s hf
  obtain ⟨hz, hn⟩ := ckZ_s ez
  rw [hz] at hf
  exact ep_retzR hx hb hr hn hlocks hw hf dX4_isEcho_13
theorem hdX4_isSold : yX4_isSold.cls = RX4 ∧ yX4_isSold.cls ≠ "java/lang/invoke/MethodHandle" ∧ yX4_isSold.cls ≠ "java/lang/invoke/VarHandle" ∧ (parseMethodDescriptor yX4_isSold.desc).map (fun d => d.parameters.length) = some 1 := by decide +kernel
theorem ckX4_isSold {h : Hp} {a0 : Nat} {x1 : Int32} {res : Int32} (hf : fX4_isSold h a0 x1 = some res) : ep_cls h a0 = some 4 := by
  unfold fX4_isSold at hf
  exact (oi_c hf).1
abbrev wX4_isSold (p : Program) (l : Launch) (e : Env) (s : State) (m : MethodId) (below : List Frame) (meth : Method) (c : Code) (G : EG) (h : Hp) (a0 : Nat) (x1 : Int32) (res : Int32) (k9 n9 : Nat) (H : Heap) (locs : List Loc) (g : JFrame) : Prop := W p l e (headSpec (ws_ yX4_isSold cX4_isSold 2 (some .boolean)) ({ frames := 1, cells := 0, slots := 0, locals := 22 } : Room)).room s m ([.ref a0, .int x1] : List Value).toArray below meth c H locs k9 n9 (MQ below (ep_Qi G ep_cl h res) ([.ref a0, .int x1] : List Value).toArray s 0 0 (ep_A G)) g
set_option maxHeartbeats 4000000 in
theorem metX4_isSold (l : Launch) (G : EG) (h : Hp) (a0 : Nat) (x1 : Int32) {res : Int32} (hf : fX4_isSold h a0 x1 = some res) : Met l yX4_isSold (ws_ yX4_isSold cX4_isSold 2 (some .boolean)) ({ frames := 1, cells := 0, slots := 0, locals := 22 } : Room) (ep_Pc G ep_cl h [.ref a0, .int x1]) (ep_Qi G ep_cl h res) 0 0 (ep_A G) := by
  refine Met.ofW (cc := cX4_isSold) (maxL := 2) (ret := (some .boolean)) (by decide) rfl ?_
  intro p e s m args below meth c s₁ B hml hv
  obtain ⟨rfl, hR, hK, hZ⟩ := hv
  have hx := B.exec
  have hb := B.bytes
  have hr := B.returns
  have hlocks := B.notSynchronized
  have hts := atoms_spec (ws := (ws_ yX4_isSold cX4_isSold 2 (some .boolean))) B.pre
  have hts : ∀ w ∈ lw_all, w.before _ s = true := fun w h => hts w (List.mem_cons_of_mem _ h)
  have hown : s.vm.findClass RX4 = some m.cls := findClass_of_methodNamed B.named
  have hw : ep_W G ep_cl h s s.heap [] := ⟨hR, va_S.rf⟩
  have hl := lv_entry ([.ref a0, .int x1]) (n := 2) (Nat.le_of_ble_eq_true rfl)
  rw [lg_entry_eq]
  generalize (lg_sl ([.ref a0, .int x1]) ++ List.replicate (2 - (lg_sl ([.ref a0, .int x1])).length) Slot.unset).toArray = ls at hl ⊢
  have hl : lv_has ls 2 [(0, .ref a0), (1, .int x1)] := hl
  unfold fX4_isSold at hf
  have hf := (oi_c hf).2
  show wX4_isSold p l e s m below meth c G h a0 x1 res 0 0 s.heap ([]) (F0 m 0 ls [])
  refine lv_aload_n hx hb dX4_isSold_0 rfl (lv_at hl 0 rfl) ?_
  refine lv_iload_n hx hb dX4_isSold_1 rfl (lv_at hl 1 rfl) ?_
  refine lv_iconst (v := iI 2) hx hb dX4_isSold_2 rfl ?_
  obtain ⟨v1, ev1, hf⟩ := ob_s hf
  refine ep_calli0 (va_runV (As := [.int x1, .int (iI 2)]) (rest := []) ⟨hx, hb, hml, hown, hts⟩ (metX4_of l G h a0 x1 (iI 2) ev1) (cwV 2 hts (lw_V q1327 q1329 qs50 q89 q1330) rfl rfl rfl hdX4_of ⟨Nat.le_of_ble_eq_true rfl, Nat.le_of_ble_eq_true rfl⟩) (ep_preV hK hZ hw rfl (ckX4_of ev1)) rfl rfl hl.1 rfl (lv_room (Nat.le_of_ble_eq_true rfl)) dX4_isSold_3 ⟨Nat.le_of_ble_eq_true rfl, Nat.le_of_ble_eq_true rfl⟩) hw (fun H locs hw => ?_)
  refine lv_bipush (v := iI (-4)) hx hb dX4_isSold_6 (by decide) ?_
  refine lv_icmp_ne (tgt := 15) hx hb dX4_isSold_8 (by decide) (fun c2 => ?_) (fun c2 => ?_)
  · have hf := oi_f hf c2
    refine lv_iconst (v := iI 0) hx hb dX4_isSold_15 rfl ?_
    exact ep_retzR hx hb hr rfl hlocks hw hf dX4_isSold_16
  · have hf := oi_t hf c2
    refine lv_iconst (v := iI 1) hx hb dX4_isSold_11 rfl ?_
    refine lv_goto (tgt := 16) hx hb dX4_isSold_12 (by decide) ?_
    exact ep_retzR hx hb hr rfl hlocks hw hf dX4_isSold_16
theorem hdX4_distanceOf : yX4_distanceOf.cls = RX4 ∧ yX4_distanceOf.cls ≠ "java/lang/invoke/MethodHandle" ∧ yX4_distanceOf.cls ≠ "java/lang/invoke/VarHandle" ∧ (parseMethodDescriptor yX4_distanceOf.desc).map (fun d => d.parameters.length) = some 1 := by decide +kernel
theorem ckX4_distanceOf {h : Hp} {a0 : Nat} {x1 : Int32} {res : Int32} (hf : fX4_distanceOf h a0 x1 = some res) : ep_cls h a0 = some 4 := by
  unfold fX4_distanceOf at hf
  exact (oi_c hf).1
abbrev wX4_distanceOf (p : Program) (l : Launch) (e : Env) (s : State) (m : MethodId) (below : List Frame) (meth : Method) (c : Code) (G : EG) (h : Hp) (a0 : Nat) (x1 : Int32) (res : Int32) (k9 n9 : Nat) (H : Heap) (locs : List Loc) (g : JFrame) : Prop := W p l e (headSpec (ws_ yX4_distanceOf cX4_distanceOf 2 (some .int)) ({ frames := 1, cells := 0, slots := 0, locals := 22 } : Room)).room s m ([.ref a0, .int x1] : List Value).toArray below meth c H locs k9 n9 (MQ below (ep_Qi G ep_cl h res) ([.ref a0, .int x1] : List Value).toArray s 0 0 (ep_A G)) g
set_option maxHeartbeats 4000000 in
theorem metX4_distanceOf (l : Launch) (G : EG) (h : Hp) (a0 : Nat) (x1 : Int32) {res : Int32} (hf : fX4_distanceOf h a0 x1 = some res) : Met l yX4_distanceOf (ws_ yX4_distanceOf cX4_distanceOf 2 (some .int)) ({ frames := 1, cells := 0, slots := 0, locals := 22 } : Room) (ep_Pc G ep_cl h [.ref a0, .int x1]) (ep_Qi G ep_cl h res) 0 0 (ep_A G) := by
  refine Met.ofW (cc := cX4_distanceOf) (maxL := 2) (ret := (some .int)) (by decide) rfl ?_
  intro p e s m args below meth c s₁ B hml hv
  obtain ⟨rfl, hR, hK, hZ⟩ := hv
  have hx := B.exec
  have hb := B.bytes
  have hr := B.returns
  have hlocks := B.notSynchronized
  have hts := atoms_spec (ws := (ws_ yX4_distanceOf cX4_distanceOf 2 (some .int))) B.pre
  have hts : ∀ w ∈ lw_all, w.before _ s = true := fun w h => hts w (List.mem_cons_of_mem _ h)
  have hown : s.vm.findClass RX4 = some m.cls := findClass_of_methodNamed B.named
  have hw : ep_W G ep_cl h s s.heap [] := ⟨hR, va_S.rf⟩
  have hl := lv_entry ([.ref a0, .int x1]) (n := 2) (Nat.le_of_ble_eq_true rfl)
  rw [lg_entry_eq]
  generalize (lg_sl ([.ref a0, .int x1]) ++ List.replicate (2 - (lg_sl ([.ref a0, .int x1])).length) Slot.unset).toArray = ls at hl ⊢
  have hl : lv_has ls 2 [(0, .ref a0), (1, .int x1)] := hl
  unfold fX4_distanceOf at hf
  have hf := (oi_c hf).2
  show wX4_distanceOf p l e s m below meth c G h a0 x1 res 0 0 s.heap ([]) (F0 m 0 ls [])
  refine lv_aload_n hx hb dX4_distanceOf_0 rfl (lv_at hl 0 rfl) ?_
  obtain ⟨r1, er1, hf⟩ := ob_s hf
  refine ep_get (C := RX4) (T := TX4) (N := 32) (ci := 4) hx hb hts in_X4 hown hK hw rfl 1 (by decide) q1140 (gR_f er1) dX4_distanceOf_1 ?_
  refine lv_iconst (v := iI 2) hx hb dX4_distanceOf_4 rfl ?_
  refine lv_aload_n hx hb dX4_distanceOf_5 rfl (lv_at hl 0 rfl) ?_
  refine lv_iload_n hx hb dX4_distanceOf_6 rfl (lv_at hl 1 rfl) ?_
  refine lv_iconst (v := iI 2) hx hb dX4_distanceOf_7 rfl ?_
  obtain ⟨v2, ev2, hf⟩ := ob_s hf
  refine ep_calli0 (va_runV (As := [.int x1, .int (iI 2)]) (rest := [.int (iI 2), .ref r1]) ⟨hx, hb, hml, hown, hts⟩ (metX4_of l G h a0 x1 (iI 2) ev2) (cwV 2 hts (lw_V q1327 q1329 qs50 q89 q1330) rfl rfl rfl hdX4_of ⟨Nat.le_of_ble_eq_true rfl, Nat.le_of_ble_eq_true rfl⟩) (ep_preV hK hZ hw rfl (ckX4_of ev2)) rfl rfl hl.1 rfl (lv_room (Nat.le_of_ble_eq_true rfl)) dX4_distanceOf_8 ⟨Nat.le_of_ble_eq_true rfl, Nat.le_of_ble_eq_true rfl⟩) hw (fun H locs hw => ?_)
  refine lv_imul hx hb dX4_distanceOf_11 ?_
  refine lv_iconst (v := iI 0) hx hb dX4_distanceOf_12 rfl ?_
  refine lv_iadd hx hb dX4_distanceOf_13 ?_
  obtain ⟨v3, ev3, hf⟩ := ob_s hf
  refine ep_iald hx hb hK hw ev3 dX4_distanceOf_14 ?_
  exact ep_retiR hx hb hr hlocks hw hf dX4_distanceOf_15
theorem hdX4_returnsOf : yX4_returnsOf.cls = RX4 ∧ yX4_returnsOf.cls ≠ "java/lang/invoke/MethodHandle" ∧ yX4_returnsOf.cls ≠ "java/lang/invoke/VarHandle" ∧ (parseMethodDescriptor yX4_returnsOf.desc).map (fun d => d.parameters.length) = some 1 := by decide +kernel
theorem ckX4_returnsOf {h : Hp} {a0 : Nat} {x1 : Int32} {res : Int32} (hf : fX4_returnsOf h a0 x1 = some res) : ep_cls h a0 = some 4 := by
  unfold fX4_returnsOf at hf
  exact (oi_c hf).1
abbrev wX4_returnsOf (p : Program) (l : Launch) (e : Env) (s : State) (m : MethodId) (below : List Frame) (meth : Method) (c : Code) (G : EG) (h : Hp) (a0 : Nat) (x1 : Int32) (res : Int32) (k9 n9 : Nat) (H : Heap) (locs : List Loc) (g : JFrame) : Prop := W p l e (headSpec (ws_ yX4_returnsOf cX4_returnsOf 3 (some .int)) ({ frames := 2, cells := 0, slots := 0, locals := 43 } : Room)).room s m ([.ref a0, .int x1] : List Value).toArray below meth c H locs k9 n9 (MQ below (ep_Qi G ep_cl h res) ([.ref a0, .int x1] : List Value).toArray s 0 0 (ep_A G)) g
set_option maxHeartbeats 4000000 in
theorem metX4_returnsOf (l : Launch) (G : EG) (h : Hp) (a0 : Nat) (x1 : Int32) {res : Int32} (hf : fX4_returnsOf h a0 x1 = some res) : Met l yX4_returnsOf (ws_ yX4_returnsOf cX4_returnsOf 3 (some .int)) ({ frames := 2, cells := 0, slots := 0, locals := 43 } : Room) (ep_Pc G ep_cl h [.ref a0, .int x1]) (ep_Qi G ep_cl h res) 0 0 (ep_A G) := by
  refine Met.ofW (cc := cX4_returnsOf) (maxL := 3) (ret := (some .int)) (by decide) rfl ?_
  intro p e s m args below meth c s₁ B hml hv
  obtain ⟨rfl, hR, hK, hZ⟩ := hv
  have hx := B.exec
  have hb := B.bytes
  have hr := B.returns
  have hlocks := B.notSynchronized
  have hts := atoms_spec (ws := (ws_ yX4_returnsOf cX4_returnsOf 3 (some .int))) B.pre
  have hts : ∀ w ∈ lw_all, w.before _ s = true := fun w h => hts w (List.mem_cons_of_mem _ h)
  have hown : s.vm.findClass RX4 = some m.cls := findClass_of_methodNamed B.named
  have hw : ep_W G ep_cl h s s.heap [] := ⟨hR, va_S.rf⟩
  have hl := lv_entry ([.ref a0, .int x1]) (n := 3) (Nat.le_of_ble_eq_true rfl)
  rw [lg_entry_eq]
  generalize (lg_sl ([.ref a0, .int x1]) ++ List.replicate (3 - (lg_sl ([.ref a0, .int x1])).length) Slot.unset).toArray = ls at hl ⊢
  have hl : lv_has ls 3 [(0, .ref a0), (1, .int x1)] := hl
  unfold fX4_returnsOf at hf
  have hf := (oi_c hf).2
  show wX4_returnsOf p l e s m below meth c G h a0 x1 res 0 0 s.heap ([]) (F0 m 0 ls [])
  refine lv_aload_n hx hb dX4_returnsOf_0 rfl (lv_at hl 0 rfl) ?_
  refine lv_iload_n hx hb dX4_returnsOf_1 rfl (lv_at hl 1 rfl) ?_
  obtain ⟨v1, ev1, hf⟩ := ob_s hf
  refine ep_calli0 (va_runV (As := [.int x1]) (rest := []) ⟨hx, hb, hml, hown, hts⟩ (metX4_isSold l G h a0 x1 ev1) (cwV 1 hts (lw_V q1360 q1362 qs56 q89 q1363) rfl rfl rfl hdX4_isSold ⟨Nat.le_of_ble_eq_true rfl, Nat.le_of_ble_eq_true rfl⟩) (ep_preV hK hZ hw rfl (ckX4_isSold ev1)) rfl rfl hl.1 rfl (lv_room (Nat.le_of_ble_eq_true rfl)) dX4_returnsOf_2 ⟨Nat.le_of_ble_eq_true rfl, Nat.le_of_ble_eq_true rfl⟩) hw (fun H locs hw => ?_)
  refine lv_if_ne (tgt := 16) hx hb dX4_returnsOf_5 (by decide) (fun c2 => ?_) (fun c2 => ?_)
  · have hf := oi_f hf c2
    refine lv_iconst (v := iI 0) hx hb dX4_returnsOf_16 rfl ?_
    exact ep_retiR hx hb hr hlocks hw hf dX4_returnsOf_17
  · have hf := oi_t hf c2
    refine lv_aload_n hx hb dX4_returnsOf_8 rfl (lv_at hl 0 rfl) ?_
    refine lv_iload_n hx hb dX4_returnsOf_9 rfl (lv_at hl 1 rfl) ?_
    obtain ⟨v3, ev3, hf⟩ := ob_s hf
    refine ep_calli0 (va_runV (As := [.int x1]) (rest := []) ⟨hx, hb, hml, hown, hts⟩ (metX4_isSilent l G h a0 x1 ev3) (cwV 1 hts (lw_V q1335 q1337 qs52 q89 q1338) rfl rfl rfl hdX4_isSilent ⟨Nat.le_of_ble_eq_true rfl, Nat.le_of_ble_eq_true rfl⟩) (ep_preV hK hZ hw rfl (ckX4_isSilent ev3)) rfl rfl hl.1 rfl (lv_room (Nat.le_of_ble_eq_true rfl)) dX4_returnsOf_10 ⟨Nat.le_of_ble_eq_true rfl, Nat.le_of_ble_eq_true rfl⟩) hw (fun H locs hw => ?_)
    refine lv_if_eq (tgt := 18) hx hb dX4_returnsOf_13 (by decide) (fun c4 => ?_) (fun c4 => ?_)
    · have hf := oi_t hf c4
      refine lv_aload_n hx hb dX4_returnsOf_18 rfl (lv_at hl 0 rfl) ?_
      refine lv_iload_n hx hb dX4_returnsOf_19 rfl (lv_at hl 1 rfl) ?_
      refine lv_iconst (v := iI 1) hx hb dX4_returnsOf_20 rfl ?_
      obtain ⟨v5, ev5, hf⟩ := ob_s hf
      refine ep_calli0 (va_runV (As := [.int x1, .int (iI 1)]) (rest := []) ⟨hx, hb, hml, hown, hts⟩ (metX4_of l G h a0 x1 (iI 1) ev5) (cwV 2 hts (lw_V q1327 q1329 qs50 q89 q1330) rfl rfl rfl hdX4_of ⟨Nat.le_of_ble_eq_true rfl, Nat.le_of_ble_eq_true rfl⟩) (ep_preV hK hZ hw rfl (ckX4_of ev5)) rfl rfl hl.1 rfl (lv_room (Nat.le_of_ble_eq_true rfl)) dX4_returnsOf_21 ⟨Nat.le_of_ble_eq_true rfl, Nat.le_of_ble_eq_true rfl⟩) hw (fun H locs hw => ?_)
      refine lv_aload_n hx hb dX4_returnsOf_24 rfl (lv_at hl 0 rfl) ?_
      refine lv_iload_n hx hb dX4_returnsOf_25 rfl (lv_at hl 1 rfl) ?_
      obtain ⟨v6, ev6, hf⟩ := ob_s hf
      refine ep_calli0 (va_runV (As := [.int x1]) (rest := [.int v5]) ⟨hx, hb, hml, hown, hts⟩ (metX4_distanceOf l G h a0 x1 ev6) (cwV 1 hts (lw_V q1364 q1366 qs57 q89 q1367) rfl rfl rfl hdX4_distanceOf ⟨Nat.le_of_ble_eq_true rfl, Nat.le_of_ble_eq_true rfl⟩) (ep_preV hK hZ hw rfl (ckX4_distanceOf ev6)) rfl rfl hl.1 rfl (lv_room (Nat.le_of_ble_eq_true rfl)) dX4_returnsOf_26 ⟨Nat.le_of_ble_eq_true rfl, Nat.le_of_ble_eq_true rfl⟩) hw (fun H locs hw => ?_)
      obtain ⟨v7, ev7, hf⟩ := ob_s hf
      refine ep_idiv hx hb ev7 dX4_returnsOf_29 ?_
      refine lv_istore_n (lv' := [(2, .int v7), (0, .ref a0), (1, .int x1)]) hx hb dX4_returnsOf_30 rfl hl (by decide) rfl (fun ls hl => ?_)
      refine lv_aload_n hx hb dX4_returnsOf_31 rfl (lv_at hl 1 rfl) ?_
      refine lv_iload_n hx hb dX4_returnsOf_32 rfl (lv_at hl 2 rfl) ?_
      refine lv_iconst (v := iI 0) hx hb dX4_returnsOf_33 rfl ?_
      obtain ⟨v8, ev8, hf⟩ := ob_s hf
      refine ep_calli0 (va_runV (As := [.int x1, .int (iI 0)]) (rest := []) ⟨hx, hb, hml, hown, hts⟩ (metX4_of l G h a0 x1 (iI 0) ev8) (cwV 2 hts (lw_V q1327 q1329 qs50 q89 q1330) rfl rfl rfl hdX4_of ⟨Nat.le_of_ble_eq_true rfl, Nat.le_of_ble_eq_true rfl⟩) (ep_preV hK hZ hw rfl (ckX4_of ev8)) rfl rfl hl.1 rfl (lv_room (Nat.le_of_ble_eq_true rfl)) dX4_returnsOf_34 ⟨Nat.le_of_ble_eq_true rfl, Nat.le_of_ble_eq_true rfl⟩) hw (fun H locs hw => ?_)
      refine lv_iconst (v := iI 1) hx hb dX4_returnsOf_37 rfl ?_
      refine lv_icmp_ne (tgt := 47) hx hb dX4_returnsOf_38 (by decide) (fun c9 => ?_) (fun c9 => ?_)
      · have hf := oi_f hf c9
        refine lv_aload_n hx hb dX4_returnsOf_47 rfl (lv_at hl 1 rfl) ?_
        refine lv_iload_n hx hb dX4_returnsOf_48 rfl (lv_at hl 2 rfl) ?_
        refine lv_iconst (v := iI 0) hx hb dX4_returnsOf_49 rfl ?_
        obtain ⟨v10, ev10, hf⟩ := ob_s hf
        refine ep_calli0 (va_runV (As := [.int x1, .int (iI 0)]) (rest := []) ⟨hx, hb, hml, hown, hts⟩ (metX4_of l G h a0 x1 (iI 0) ev10) (cwV 2 hts (lw_V q1327 q1329 qs50 q89 q1330) rfl rfl rfl hdX4_of ⟨Nat.le_of_ble_eq_true rfl, Nat.le_of_ble_eq_true rfl⟩) (ep_preV hK hZ hw rfl (ckX4_of ev10)) rfl rfl hl.1 rfl (lv_room (Nat.le_of_ble_eq_true rfl)) dX4_returnsOf_50 ⟨Nat.le_of_ble_eq_true rfl, Nat.le_of_ble_eq_true rfl⟩) hw (fun H locs hw => ?_)
        refine lv_iconst (v := iI 2) hx hb dX4_returnsOf_53 rfl ?_
        refine lv_icmp_ne (tgt := 63) hx hb dX4_returnsOf_54 (by decide) (fun c11 => ?_) (fun c11 => ?_)
        · have hf := oi_f hf c11
          refine lv_iload_n hx hb dX4_returnsOf_63 rfl (lv_at hl 0 rfl) ?_
          exact ep_retiR hx hb hr hlocks hw hf dX4_returnsOf_64
        · have hf := oi_t hf c11
          refine lv_iload_n hx hb dX4_returnsOf_57 rfl (lv_at hl 0 rfl) ?_
          refine lv_iconst (v := iI 1) hx hb dX4_returnsOf_58 rfl ?_
          refine lv_iadd hx hb dX4_returnsOf_59 ?_
          refine lv_goto (tgt := 64) hx hb dX4_returnsOf_60 (by decide) ?_
          exact ep_retiR hx hb hr hlocks hw hf dX4_returnsOf_64
      · have hf := oi_t hf c9
        refine lv_iconst (v := iI 2) hx hb dX4_returnsOf_41 rfl ?_
        refine lv_iload_n hx hb dX4_returnsOf_42 rfl (lv_at hl 0 rfl) ?_
        refine lv_imul hx hb dX4_returnsOf_43 ?_
        refine lv_goto (tgt := 64) hx hb dX4_returnsOf_44 (by decide) ?_
        exact ep_retiR hx hb hr hlocks hw hf dX4_returnsOf_64
    · have hf := oi_f hf c4
      refine lv_iconst (v := iI 0) hx hb dX4_returnsOf_16 rfl ?_
      exact ep_retiR hx hb hr hlocks hw hf dX4_returnsOf_17
theorem hdX4_periodOf : yX4_periodOf.cls = RX4 ∧ yX4_periodOf.cls ≠ "java/lang/invoke/MethodHandle" ∧ yX4_periodOf.cls ≠ "java/lang/invoke/VarHandle" ∧ (parseMethodDescriptor yX4_periodOf.desc).map (fun d => d.parameters.length) = some 1 := by decide +kernel
theorem ckX4_periodOf {h : Hp} {a0 : Nat} {x1 : Int32} {res : Int32} (hf : fX4_periodOf h a0 x1 = some res) : ep_cls h a0 = some 4 := by
  unfold fX4_periodOf at hf
  exact (oi_c hf).1
abbrev wX4_periodOf (p : Program) (l : Launch) (e : Env) (s : State) (m : MethodId) (below : List Frame) (meth : Method) (c : Code) (G : EG) (h : Hp) (a0 : Nat) (x1 : Int32) (res : Int32) (k9 n9 : Nat) (H : Heap) (locs : List Loc) (g : JFrame) : Prop := W p l e (headSpec (ws_ yX4_periodOf cX4_periodOf 2 (some .int)) ({ frames := 2, cells := 0, slots := 0, locals := 43 } : Room)).room s m ([.ref a0, .int x1] : List Value).toArray below meth c H locs k9 n9 (MQ below (ep_Qi G ep_cl h res) ([.ref a0, .int x1] : List Value).toArray s 0 0 (ep_A G)) g
set_option maxHeartbeats 4000000 in
theorem metX4_periodOf (l : Launch) (G : EG) (h : Hp) (a0 : Nat) (x1 : Int32) {res : Int32} (hf : fX4_periodOf h a0 x1 = some res) : Met l yX4_periodOf (ws_ yX4_periodOf cX4_periodOf 2 (some .int)) ({ frames := 2, cells := 0, slots := 0, locals := 43 } : Room) (ep_Pc G ep_cl h [.ref a0, .int x1]) (ep_Qi G ep_cl h res) 0 0 (ep_A G) := by
  refine Met.ofW (cc := cX4_periodOf) (maxL := 2) (ret := (some .int)) (by decide) rfl ?_
  intro p e s m args below meth c s₁ B hml hv
  obtain ⟨rfl, hR, hK, hZ⟩ := hv
  have hx := B.exec
  have hb := B.bytes
  have hr := B.returns
  have hlocks := B.notSynchronized
  have hts := atoms_spec (ws := (ws_ yX4_periodOf cX4_periodOf 2 (some .int))) B.pre
  have hts : ∀ w ∈ lw_all, w.before _ s = true := fun w h => hts w (List.mem_cons_of_mem _ h)
  have hown : s.vm.findClass RX4 = some m.cls := findClass_of_methodNamed B.named
  have hw : ep_W G ep_cl h s s.heap [] := ⟨hR, va_S.rf⟩
  have hl := lv_entry ([.ref a0, .int x1]) (n := 2) (Nat.le_of_ble_eq_true rfl)
  rw [lg_entry_eq]
  generalize (lg_sl ([.ref a0, .int x1]) ++ List.replicate (2 - (lg_sl ([.ref a0, .int x1])).length) Slot.unset).toArray = ls at hl ⊢
  have hl : lv_has ls 2 [(0, .ref a0), (1, .int x1)] := hl
  unfold fX4_periodOf at hf
  have hf := (oi_c hf).2
  show wX4_periodOf p l e s m below meth c G h a0 x1 res 0 0 s.heap ([]) (F0 m 0 ls [])
  refine lv_aload_n hx hb dX4_periodOf_0 rfl (lv_at hl 0 rfl) ?_
  refine lv_iload_n hx hb dX4_periodOf_1 rfl (lv_at hl 1 rfl) ?_
  obtain ⟨v1, ev1, hf⟩ := ob_s hf
  refine ep_calli0 (va_runV (As := [.int x1]) (rest := []) ⟨hx, hb, hml, hown, hts⟩ (metX4_isSold l G h a0 x1 ev1) (cwV 1 hts (lw_V q1360 q1362 qs56 q89 q1363) rfl rfl rfl hdX4_isSold ⟨Nat.le_of_ble_eq_true rfl, Nat.le_of_ble_eq_true rfl⟩) (ep_preV hK hZ hw rfl (ckX4_isSold ev1)) rfl rfl hl.1 rfl (lv_room (Nat.le_of_ble_eq_true rfl)) dX4_periodOf_2 ⟨Nat.le_of_ble_eq_true rfl, Nat.le_of_ble_eq_true rfl⟩) hw (fun H locs hw => ?_)
  refine lv_if_eq (tgt := 12) hx hb dX4_periodOf_5 (by decide) (fun c2 => ?_) (fun c2 => ?_)
  · have hf := oi_t hf c2
    refine lv_aload_n hx hb dX4_periodOf_12 rfl (lv_at hl 0 rfl) ?_
    refine lv_iload_n hx hb dX4_periodOf_13 rfl (lv_at hl 1 rfl) ?_
    obtain ⟨v3, ev3, hf⟩ := ob_s hf
    refine ep_calli0 (va_runV (As := [.int x1]) (rest := []) ⟨hx, hb, hml, hown, hts⟩ (metX4_distanceOf l G h a0 x1 ev3) (cwV 1 hts (lw_V q1364 q1366 qs57 q89 q1367) rfl rfl rfl hdX4_distanceOf ⟨Nat.le_of_ble_eq_true rfl, Nat.le_of_ble_eq_true rfl⟩) (ep_preV hK hZ hw rfl (ckX4_distanceOf ev3)) rfl rfl hl.1 rfl (lv_room (Nat.le_of_ble_eq_true rfl)) dX4_periodOf_14 ⟨Nat.le_of_ble_eq_true rfl, Nat.le_of_ble_eq_true rfl⟩) hw (fun H locs hw => ?_)
    refine lv_aload_n hx hb dX4_periodOf_17 rfl (lv_at hl 0 rfl) ?_
    refine lv_iload_n hx hb dX4_periodOf_18 rfl (lv_at hl 1 rfl) ?_
    refine lv_iconst (v := iI 3) hx hb dX4_periodOf_19 rfl ?_
    obtain ⟨v4, ev4, hf⟩ := ob_s hf
    refine ep_calli0 (va_runV (As := [.int x1, .int (iI 3)]) (rest := [.int v3]) ⟨hx, hb, hml, hown, hts⟩ (metX4_of l G h a0 x1 (iI 3) ev4) (cwV 2 hts (lw_V q1327 q1329 qs50 q89 q1330) rfl rfl rfl hdX4_of ⟨Nat.le_of_ble_eq_true rfl, Nat.le_of_ble_eq_true rfl⟩) (ep_preV hK hZ hw rfl (ckX4_of ev4)) rfl rfl hl.1 rfl (lv_room (Nat.le_of_ble_eq_true rfl)) dX4_periodOf_20 ⟨Nat.le_of_ble_eq_true rfl, Nat.le_of_ble_eq_true rfl⟩) hw (fun H locs hw => ?_)
    refine lv_iadd hx hb dX4_periodOf_23 ?_
    exact ep_retiR hx hb hr hlocks hw hf dX4_periodOf_24
  · have hf := oi_f hf c2
    refine lv_iconst (v := iI 0) hx hb dX4_periodOf_8 rfl ?_
    refine lv_goto (tgt := 24) hx hb dX4_periodOf_9 (by decide) ?_
    exact ep_retiR hx hb hr hlocks hw hf dX4_periodOf_24
theorem hdX4_echo : yX4_echo.cls = RX4 ∧ yX4_echo.cls ≠ "java/lang/invoke/MethodHandle" ∧ yX4_echo.cls ≠ "java/lang/invoke/VarHandle" ∧ (parseMethodDescriptor yX4_echo.desc).map (fun d => d.parameters.length) = some 2 := by decide +kernel
theorem ckX4_echo {h : Hp} {a0 : Nat} {x1 : Int32} {x2 : Int32} {res : Int32 × Hp} (hf : fX4_echo h a0 x1 x2 = some res) : ep_cls h a0 = some 4 := by
  unfold fX4_echo at hf
  exact (oi_c hf).1
abbrev wX4_echo (p : Program) (l : Launch) (e : Env) (s : State) (m : MethodId) (below : List Frame) (meth : Method) (c : Code) (G : EG) (h : Hp) (a0 : Nat) (x1 : Int32) (x2 : Int32) (res : Int32 × Hp) (k9 n9 : Nat) (H : Heap) (locs : List Loc) (g : JFrame) : Prop := W p l e (headSpec (ws_ yX4_echo cX4_echo 3 (some .int)) ({ frames := 3, cells := 0, slots := 0, locals := 65 } : Room)).room s m ([.ref a0, .int x1, .int x2] : List Value).toArray below meth c H locs k9 n9 (MQ below (ep_Qi G ep_cl res.2 res.1) ([.ref a0, .int x1, .int x2] : List Value).toArray s 0 0 (ep_A G)) g
set_option maxHeartbeats 4000000 in
theorem metX4_echo (l : Launch) (G : EG) (h : Hp) (a0 : Nat) (x1 : Int32) (x2 : Int32) {res : Int32 × Hp} (hf : fX4_echo h a0 x1 x2 = some res) : Met l yX4_echo (ws_ yX4_echo cX4_echo 3 (some .int)) ({ frames := 3, cells := 0, slots := 0, locals := 65 } : Room) (ep_Pc G ep_cl h [.ref a0, .int x1, .int x2]) (ep_Qi G ep_cl res.2 res.1) 0 0 (ep_A G) := by
  refine Met.ofW (cc := cX4_echo) (maxL := 3) (ret := (some .int)) (by decide) rfl ?_
  intro p e s m args below meth c s₁ B hml hv
  obtain ⟨rfl, hR, hK, hZ⟩ := hv
  have hx := B.exec
  have hb := B.bytes
  have hr := B.returns
  have hlocks := B.notSynchronized
  have hts := atoms_spec (ws := (ws_ yX4_echo cX4_echo 3 (some .int))) B.pre
  have hts : ∀ w ∈ lw_all, w.before _ s = true := fun w h => hts w (List.mem_cons_of_mem _ h)
  have hown : s.vm.findClass RX4 = some m.cls := findClass_of_methodNamed B.named
  have hw : ep_W G ep_cl h s s.heap [] := ⟨hR, va_S.rf⟩
  have hl := lv_entry ([.ref a0, .int x1, .int x2]) (n := 3) (Nat.le_of_ble_eq_true rfl)
  rw [lg_entry_eq]
  generalize (lg_sl ([.ref a0, .int x1, .int x2]) ++ List.replicate (3 - (lg_sl ([.ref a0, .int x1, .int x2])).length) Slot.unset).toArray = ls at hl ⊢
  have hl : lv_has ls 3 [(0, .ref a0), (1, .int x1), (2, .int x2)] := hl
  unfold fX4_echo at hf
  have hf := (oi_c hf).2
  show wX4_echo p l e s m below meth c G h a0 x1 x2 res 0 0 s.heap ([]) (F0 m 0 ls [])
  refine lv_aload_n hx hb dX4_echo_0 rfl (lv_at hl 0 rfl) ?_
  refine lv_iload_n hx hb dX4_echo_1 rfl (lv_at hl 1 rfl) ?_
  obtain ⟨v1, ev1, hf⟩ := ob_s hf
  refine ep_calli0 (va_runV (As := [.int x1]) (rest := []) ⟨hx, hb, hml, hown, hts⟩ (metX4_isEcho l G h a0 x1 ev1) (cwV 1 hts (lw_V q1352 q1354 qs54 q89 q1355) rfl rfl rfl hdX4_isEcho ⟨Nat.le_of_ble_eq_true rfl, Nat.le_of_ble_eq_true rfl⟩) (ep_preV hK hZ hw rfl (ckX4_isEcho ev1)) rfl rfl hl.1 rfl (lv_room (Nat.le_of_ble_eq_true rfl)) dX4_echo_2 ⟨Nat.le_of_ble_eq_true rfl, Nat.le_of_ble_eq_true rfl⟩) hw (fun H locs hw => ?_)
  refine lv_if_ne (tgt := 10) hx hb dX4_echo_5 (by decide) (fun c2 => ?_) (fun c2 => ?_)
  · have hf := oi_f hf c2
    refine lv_aload_n hx hb dX4_echo_10 rfl (lv_at hl 0 rfl) ?_
    obtain ⟨o3, eo3, hf⟩ := ob_s hf
    refine ep_callv0 (va_runV (As := []) (rest := []) ⟨hx, hb, hml, hown, hts⟩ (metX4_starts l G h a0 eo3) (cwV 0 hts (lw_V q1319 q1321 qs48 q89 q1322) rfl rfl rfl hdX4_starts ⟨Nat.le_of_ble_eq_true rfl, Nat.le_of_ble_eq_true rfl⟩) (ep_preV hK hZ hw rfl (ckX4_starts eo3)) rfl rfl hl.1 rfl (lv_room (Nat.le_of_ble_eq_true rfl)) dX4_echo_11 ⟨Nat.le_of_ble_eq_true rfl, Nat.le_of_ble_eq_true rfl⟩) hw (fun H locs hw => ?_)
    refine lv_iload_n hx hb dX4_echo_14 rfl (lv_at hl 2 rfl) ?_
    by_cases c4 : x2 = iI 0
    · have hf := oi_t hf c4
      refine lv_tableIn (off := 37) (tgt := 52) hx hb dX4_echo_15 (by rw [ep_swIn c4 (by decide)]; decide) (by rw [ep_swIn c4 (by decide)]; decide) (by rw [ep_swIn c4 (by decide)]; rfl) (by decide) ?_
      refine lv_aload_n hx hb dX4_echo_52 rfl (lv_at hl 0 rfl) ?_
      refine lv_iload_n hx hb dX4_echo_53 rfl (lv_at hl 1 rfl) ?_
      refine lv_iload_n hx hb dX4_echo_54 rfl (lv_at hl 2 rfl) ?_
      obtain ⟨v10, ev10, hf⟩ := ob_s hf
      refine ep_calli0 (va_runV (As := [.int x1, .int x2]) (rest := []) ⟨hx, hb, hml, hown, hts⟩ (metX4_of l G o3 a0 x1 x2 ev10) (cwV 2 hts (lw_V q1327 q1329 qs50 q89 q1330) rfl rfl rfl hdX4_of ⟨Nat.le_of_ble_eq_true rfl, Nat.le_of_ble_eq_true rfl⟩) (ep_preV hK hZ hw rfl (ckX4_of ev10)) rfl rfl hl.1 rfl (lv_room (Nat.le_of_ble_eq_true rfl)) dX4_echo_55 ⟨Nat.le_of_ble_eq_true rfl, Nat.le_of_ble_eq_true rfl⟩) hw (fun H locs hw => ?_)
      exact ep_retiW hx hb hr hlocks hw hf dX4_echo_58
    · have hf := oi_f hf c4
      by_cases c5 : x2 = iI 1
      · have hf := oi_t hf c5
        refine lv_tableIn (off := 37) (tgt := 52) hx hb dX4_echo_15 (by rw [ep_swIn c5 (by decide)]; decide) (by rw [ep_swIn c5 (by decide)]; decide) (by rw [ep_swIn c5 (by decide)]; rfl) (by decide) ?_
        refine lv_aload_n hx hb dX4_echo_52 rfl (lv_at hl 0 rfl) ?_
        refine lv_iload_n hx hb dX4_echo_53 rfl (lv_at hl 1 rfl) ?_
        refine lv_iload_n hx hb dX4_echo_54 rfl (lv_at hl 2 rfl) ?_
        obtain ⟨v11, ev11, hf⟩ := ob_s hf
        refine ep_calli0 (va_runV (As := [.int x1, .int x2]) (rest := []) ⟨hx, hb, hml, hown, hts⟩ (metX4_of l G o3 a0 x1 x2 ev11) (cwV 2 hts (lw_V q1327 q1329 qs50 q89 q1330) rfl rfl rfl hdX4_of ⟨Nat.le_of_ble_eq_true rfl, Nat.le_of_ble_eq_true rfl⟩) (ep_preV hK hZ hw rfl (ckX4_of ev11)) rfl rfl hl.1 rfl (lv_room (Nat.le_of_ble_eq_true rfl)) dX4_echo_55 ⟨Nat.le_of_ble_eq_true rfl, Nat.le_of_ble_eq_true rfl⟩) hw (fun H locs hw => ?_)
        exact ep_retiW hx hb hr hlocks hw hf dX4_echo_58
      · have hf := oi_f hf c5
        by_cases c6 : x2 = iI 2
        · have hf := oi_t hf c6
          refine lv_tableIn (off := 37) (tgt := 52) hx hb dX4_echo_15 (by rw [ep_swIn c6 (by decide)]; decide) (by rw [ep_swIn c6 (by decide)]; decide) (by rw [ep_swIn c6 (by decide)]; rfl) (by decide) ?_
          refine lv_aload_n hx hb dX4_echo_52 rfl (lv_at hl 0 rfl) ?_
          refine lv_iload_n hx hb dX4_echo_53 rfl (lv_at hl 1 rfl) ?_
          refine lv_iload_n hx hb dX4_echo_54 rfl (lv_at hl 2 rfl) ?_
          obtain ⟨v12, ev12, hf⟩ := ob_s hf
          refine ep_calli0 (va_runV (As := [.int x1, .int x2]) (rest := []) ⟨hx, hb, hml, hown, hts⟩ (metX4_of l G o3 a0 x1 x2 ev12) (cwV 2 hts (lw_V q1327 q1329 qs50 q89 q1330) rfl rfl rfl hdX4_of ⟨Nat.le_of_ble_eq_true rfl, Nat.le_of_ble_eq_true rfl⟩) (ep_preV hK hZ hw rfl (ckX4_of ev12)) rfl rfl hl.1 rfl (lv_room (Nat.le_of_ble_eq_true rfl)) dX4_echo_55 ⟨Nat.le_of_ble_eq_true rfl, Nat.le_of_ble_eq_true rfl⟩) hw (fun H locs hw => ?_)
          exact ep_retiW hx hb hr hlocks hw hf dX4_echo_58
        · have hf := oi_f hf c6
          by_cases c7 : x2 = iI 3
          · have hf := oi_t hf c7
            refine lv_tableIn (off := 44) (tgt := 59) hx hb dX4_echo_15 (by rw [ep_swIn c7 (by decide)]; decide) (by rw [ep_swIn c7 (by decide)]; decide) (by rw [ep_swIn c7 (by decide)]; rfl) (by decide) ?_
            refine lv_aload_n hx hb dX4_echo_59 rfl (lv_at hl 0 rfl) ?_
            refine lv_iload_n hx hb dX4_echo_60 rfl (lv_at hl 1 rfl) ?_
            obtain ⟨v13, ev13, hf⟩ := ob_s hf
            refine ep_calli0 (va_runV (As := [.int x1]) (rest := []) ⟨hx, hb, hml, hown, hts⟩ (metX4_returnsOf l G o3 a0 x1 ev13) (cwV 1 hts (lw_V q1356 q1358 qs55 q89 q1359) rfl rfl rfl hdX4_returnsOf ⟨Nat.le_of_ble_eq_true rfl, Nat.le_of_ble_eq_true rfl⟩) (ep_preV hK hZ hw rfl (ckX4_returnsOf ev13)) rfl rfl hl.1 rfl (lv_room (Nat.le_of_ble_eq_true rfl)) dX4_echo_61 ⟨Nat.le_of_ble_eq_true rfl, Nat.le_of_ble_eq_true rfl⟩) hw (fun H locs hw => ?_)
            exact ep_retiW hx hb hr hlocks hw hf dX4_echo_64
          · have hf := oi_f hf c7
            by_cases c8 : x2 = iI 4
            · have hf := oi_t hf c8
              refine lv_tableIn (off := 50) (tgt := 65) hx hb dX4_echo_15 (by rw [ep_swIn c8 (by decide)]; decide) (by rw [ep_swIn c8 (by decide)]; decide) (by rw [ep_swIn c8 (by decide)]; rfl) (by decide) ?_
              refine lv_aload_n hx hb dX4_echo_65 rfl (lv_at hl 0 rfl) ?_
              refine lv_iload_n hx hb dX4_echo_66 rfl (lv_at hl 1 rfl) ?_
              refine lv_iconst (v := iI 3) hx hb dX4_echo_67 rfl ?_
              obtain ⟨v14, ev14, hf⟩ := ob_s hf
              refine ep_calli0 (va_runV (As := [.int x1, .int (iI 3)]) (rest := []) ⟨hx, hb, hml, hown, hts⟩ (metX4_of l G o3 a0 x1 (iI 3) ev14) (cwV 2 hts (lw_V q1327 q1329 qs50 q89 q1330) rfl rfl rfl hdX4_of ⟨Nat.le_of_ble_eq_true rfl, Nat.le_of_ble_eq_true rfl⟩) (ep_preV hK hZ hw rfl (ckX4_of ev14)) rfl rfl hl.1 rfl (lv_room (Nat.le_of_ble_eq_true rfl)) dX4_echo_68 ⟨Nat.le_of_ble_eq_true rfl, Nat.le_of_ble_eq_true rfl⟩) hw (fun H locs hw => ?_)
              exact ep_retiW hx hb hr hlocks hw hf dX4_echo_71
            · have hf := oi_f hf c8
              by_cases c9 : x2 = iI 5
              · have hf := oi_t hf c9
                refine lv_tableIn (off := 57) (tgt := 72) hx hb dX4_echo_15 (by rw [ep_swIn c9 (by decide)]; decide) (by rw [ep_swIn c9 (by decide)]; decide) (by rw [ep_swIn c9 (by decide)]; rfl) (by decide) ?_
                refine lv_aload_n hx hb dX4_echo_72 rfl (lv_at hl 0 rfl) ?_
                refine lv_iload_n hx hb dX4_echo_73 rfl (lv_at hl 1 rfl) ?_
                obtain ⟨v15, ev15, hf⟩ := ob_s hf
                refine ep_calli0 (va_runV (As := [.int x1]) (rest := []) ⟨hx, hb, hml, hown, hts⟩ (metX4_periodOf l G o3 a0 x1 ev15) (cwV 1 hts (lw_V q1368 q1370 qs58 q89 q1371) rfl rfl rfl hdX4_periodOf ⟨Nat.le_of_ble_eq_true rfl, Nat.le_of_ble_eq_true rfl⟩) (ep_preV hK hZ hw rfl (ckX4_periodOf ev15)) rfl rfl hl.1 rfl (lv_room (Nat.le_of_ble_eq_true rfl)) dX4_echo_74 ⟨Nat.le_of_ble_eq_true rfl, Nat.le_of_ble_eq_true rfl⟩) hw (fun H locs hw => ?_)
                exact ep_retiW hx hb hr hlocks hw hf dX4_echo_77
              · have hf := oi_f hf c9
                refine lv_tableOut (tgt := 78) hx hb dX4_echo_15 (ep_swOut (n := 6) (x := x2) (by decide) (lt_s (lt_s (lt_s (lt_s (lt_s (lt_s lt_0 c4) c5) c6) c7) c8) c9)) (by decide) ?_
                refine lv_iconst (v := iI (-1)) hx hb dX4_echo_78 rfl ?_
                exact ep_retiW hx hb hr hlocks hw hf dX4_echo_79
  · have hf := oi_t hf c2
    refine lv_iconst (v := iI (-1)) hx hb dX4_echo_8 rfl ?_
    exact ep_retiW hx hb hr hlocks hw hf dX4_echo_9
theorem hdX4_letter : yX4_letter.cls = RX4 ∧ yX4_letter.cls ≠ "java/lang/invoke/MethodHandle" ∧ yX4_letter.cls ≠ "java/lang/invoke/VarHandle" ∧ (parseMethodDescriptor yX4_letter.desc).map (fun d => d.parameters.length) = some 2 := by decide +kernel
theorem ckX4_letter {h : Hp} {a0 : Nat} {x1 : Int32} {x2 : Int32} {res : Int32 × Hp} (hf : fX4_letter h a0 x1 x2 = some res) : ep_cls h a0 = some 4 := by
  unfold fX4_letter at hf
  exact (oi_c hf).1
abbrev wX4_letter (p : Program) (l : Launch) (e : Env) (s : State) (m : MethodId) (below : List Frame) (meth : Method) (c : Code) (G : EG) (h : Hp) (a0 : Nat) (x1 : Int32) (x2 : Int32) (res : Int32 × Hp) (k9 n9 : Nat) (H : Heap) (locs : List Loc) (g : JFrame) : Prop := W p l e (headSpec (ws_ yX4_letter cX4_letter 3 (some .int)) ({ frames := 2, cells := 0, slots := 0, locals := 46 } : Room)).room s m ([.ref a0, .int x1, .int x2] : List Value).toArray below meth c H locs k9 n9 (MQ below (ep_Qi G ep_cl res.2 res.1) ([.ref a0, .int x1, .int x2] : List Value).toArray s 0 0 (ep_A G)) g
set_option maxHeartbeats 4000000 in
theorem metX4_letter (l : Launch) (G : EG) (h : Hp) (a0 : Nat) (x1 : Int32) (x2 : Int32) {res : Int32 × Hp} (hf : fX4_letter h a0 x1 x2 = some res) : Met l yX4_letter (ws_ yX4_letter cX4_letter 3 (some .int)) ({ frames := 2, cells := 0, slots := 0, locals := 46 } : Room) (ep_Pc G ep_cl h [.ref a0, .int x1, .int x2]) (ep_Qi G ep_cl res.2 res.1) 0 0 (ep_A G) := by
  refine Met.ofW (cc := cX4_letter) (maxL := 3) (ret := (some .int)) (by decide) rfl ?_
  intro p e s m args below meth c s₁ B hml hv
  obtain ⟨rfl, hR, hK, hZ⟩ := hv
  have hx := B.exec
  have hb := B.bytes
  have hr := B.returns
  have hlocks := B.notSynchronized
  have hts := atoms_spec (ws := (ws_ yX4_letter cX4_letter 3 (some .int))) B.pre
  have hts : ∀ w ∈ lw_all, w.before _ s = true := fun w h => hts w (List.mem_cons_of_mem _ h)
  have hown : s.vm.findClass RX4 = some m.cls := findClass_of_methodNamed B.named
  have hw : ep_W G ep_cl h s s.heap [] := ⟨hR, va_S.rf⟩
  have hl := lv_entry ([.ref a0, .int x1, .int x2]) (n := 3) (Nat.le_of_ble_eq_true rfl)
  rw [lg_entry_eq]
  generalize (lg_sl ([.ref a0, .int x1, .int x2]) ++ List.replicate (3 - (lg_sl ([.ref a0, .int x1, .int x2])).length) Slot.unset).toArray = ls at hl ⊢
  have hl : lv_has ls 3 [(0, .ref a0), (1, .int x1), (2, .int x2)] := hl
  unfold fX4_letter at hf
  have hf := (oi_c hf).2
  show wX4_letter p l e s m below meth c G h a0 x1 x2 res 0 0 s.heap ([]) (F0 m 0 ls [])
  refine lv_aload_n hx hb dX4_letter_0 rfl (lv_at hl 0 rfl) ?_
  refine lv_iload_n hx hb dX4_letter_1 rfl (lv_at hl 1 rfl) ?_
  obtain ⟨v1, ev1, hf⟩ := ob_s hf
  refine ep_calli0 (va_runV (As := [.int x1]) (rest := []) ⟨hx, hb, hml, hown, hts⟩ (metX4_isEcho l G h a0 x1 ev1) (cwV 1 hts (lw_V q1352 q1354 qs54 q89 q1355) rfl rfl rfl hdX4_isEcho ⟨Nat.le_of_ble_eq_true rfl, Nat.le_of_ble_eq_true rfl⟩) (ep_preV hK hZ hw rfl (ckX4_isEcho ev1)) rfl rfl hl.1 rfl (lv_room (Nat.le_of_ble_eq_true rfl)) dX4_letter_2 ⟨Nat.le_of_ble_eq_true rfl, Nat.le_of_ble_eq_true rfl⟩) hw (fun H locs hw => ?_)
  refine lv_if_ne (tgt := 10) hx hb dX4_letter_5 (by decide) (fun c2 => ?_) (fun c2 => ?_)
  · have hf := oi_f hf c2
    refine lv_aload_n hx hb dX4_letter_10 rfl (lv_at hl 0 rfl) ?_
    obtain ⟨o3, eo3, hf⟩ := ob_s hf
    refine ep_callv0 (va_runV (As := []) (rest := []) ⟨hx, hb, hml, hown, hts⟩ (metX4_starts l G h a0 eo3) (cwV 0 hts (lw_V q1319 q1321 qs48 q89 q1322) rfl rfl rfl hdX4_starts ⟨Nat.le_of_ble_eq_true rfl, Nat.le_of_ble_eq_true rfl⟩) (ep_preV hK hZ hw rfl (ckX4_starts eo3)) rfl rfl hl.1 rfl (lv_room (Nat.le_of_ble_eq_true rfl)) dX4_letter_11 ⟨Nat.le_of_ble_eq_true rfl, Nat.le_of_ble_eq_true rfl⟩) hw (fun H locs hw => ?_)
    refine lv_iload_n hx hb dX4_letter_14 rfl (lv_at hl 2 rfl) ?_
    refine lv_i2l (v := x2.toInt64) hx hb dX4_letter_15 rfl ?_
    refine lv_lconst (v := lI 0) hx hb dX4_letter_16 (by decide) ?_
    refine lv_aload_n hx hb dX4_letter_17 rfl (lv_at hl 0 rfl) ?_
    refine lv_iload_n hx hb dX4_letter_18 rfl (lv_at hl 1 rfl) ?_
    refine lv_iconst (v := iI 3) hx hb dX4_letter_19 rfl ?_
    obtain ⟨v4, ev4, hf⟩ := ob_s hf
    refine ep_calli0 (va_runV (As := [.int x1, .int (iI 3)]) (rest := [.long (lI 0), .long x2.toInt64]) ⟨hx, hb, hml, hown, hts⟩ (metX4_of l G o3 a0 x1 (iI 3) ev4) (cwV 2 hts (lw_V q1327 q1329 qs50 q89 q1330) rfl rfl rfl hdX4_of ⟨Nat.le_of_ble_eq_true rfl, Nat.le_of_ble_eq_true rfl⟩) (ep_preV hK hZ hw rfl (ckX4_of ev4)) rfl rfl hl.1 rfl (lv_room (Nat.le_of_ble_eq_true rfl)) dX4_letter_20 ⟨Nat.le_of_ble_eq_true rfl, Nat.le_of_ble_eq_true rfl⟩) hw (fun H locs hw => ?_)
    refine lv_iconst (v := iI 1) hx hb dX4_letter_23 rfl ?_
    refine lv_isub hx hb dX4_letter_24 ?_
    refine lv_i2l (v := (v4 - (iI 1)).toInt64) hx hb dX4_letter_25 rfl ?_
    obtain ⟨v5, ev5, hf⟩ := ob_s hf
    refine ep_calli0 (va_runS (As := [.long x2.toInt64, .long (lI 0), .long ((v4 - (iI 1)).toInt64)]) (rest := []) ⟨hx, hb, hml, hown, hts⟩ (metX4_in l G o3 x2.toInt64 (lI 0) ((v4 - (iI 1)).toInt64) ev5) (va_cwS 3 hts (lw_S q1242 q1243 q89 q1244) rfl rfl rfl hsX4_in ⟨Nat.le_of_ble_eq_true rfl, Nat.le_of_ble_eq_true rfl⟩) (ep_preS hK hZ hw) rfl rfl hl.1 rfl (lv_room (Nat.le_of_ble_eq_true rfl)) dX4_letter_26 ⟨Nat.le_of_ble_eq_true rfl, Nat.le_of_ble_eq_true rfl⟩) hw (fun H locs hw => ?_)
    refine lv_if_eq (tgt := 43) hx hb dX4_letter_29 (by decide) (fun c6 => ?_) (fun c6 => ?_)
    · have hf := oi_t hf c6
      refine lv_iconst (v := iI (-1)) hx hb dX4_letter_43 rfl ?_
      exact ep_retiW hx hb hr hlocks hw hf dX4_letter_44
    · have hf := oi_f hf c6
      refine lv_aload_n hx hb dX4_letter_32 rfl (lv_at hl 0 rfl) ?_
      refine lv_iload_n hx hb dX4_letter_33 rfl (lv_at hl 1 rfl) ?_
      refine lv_iconst (v := iI 4) hx hb dX4_letter_34 rfl ?_
      refine lv_iload_n hx hb dX4_letter_35 rfl (lv_at hl 2 rfl) ?_
      refine lv_iadd hx hb dX4_letter_36 ?_
      obtain ⟨v7, ev7, hf⟩ := ob_s hf
      refine ep_calli0 (va_runV (As := [.int x1, .int ((iI 4) + x2)]) (rest := []) ⟨hx, hb, hml, hown, hts⟩ (metX4_of l G o3 a0 x1 ((iI 4) + x2) ev7) (cwV 2 hts (lw_V q1327 q1329 qs50 q89 q1330) rfl rfl rfl hdX4_of ⟨Nat.le_of_ble_eq_true rfl, Nat.le_of_ble_eq_true rfl⟩) (ep_preV hK hZ hw rfl (ckX4_of ev7)) rfl rfl hl.1 rfl (lv_room (Nat.le_of_ble_eq_true rfl)) dX4_letter_37 ⟨Nat.le_of_ble_eq_true rfl, Nat.le_of_ble_eq_true rfl⟩) hw (fun H locs hw => ?_)
      refine lv_goto (tgt := 44) hx hb dX4_letter_40 (by decide) ?_
      exact ep_retiW hx hb hr hlocks hw hf dX4_letter_44
  · have hf := oi_t hf c2
    refine lv_iconst (v := iI (-1)) hx hb dX4_letter_8 rfl ?_
    exact ep_retiW hx hb hr hlocks hw hf dX4_letter_9
theorem hdX4_isOrder : yX4_isOrder.cls = RX4 ∧ yX4_isOrder.cls ≠ "java/lang/invoke/MethodHandle" ∧ yX4_isOrder.cls ≠ "java/lang/invoke/VarHandle" ∧ (parseMethodDescriptor yX4_isOrder.desc).map (fun d => d.parameters.length) = some 1 := by decide +kernel
theorem ckX4_isOrder {h : Hp} {a0 : Nat} {x1 : Int32} {res : Int32} (hf : fX4_isOrder h a0 x1 = some res) : ep_cls h a0 = some 4 := by
  unfold fX4_isOrder at hf
  exact (oi_c hf).1
abbrev wX4_isOrder (p : Program) (l : Launch) (e : Env) (s : State) (m : MethodId) (below : List Frame) (meth : Method) (c : Code) (G : EG) (h : Hp) (a0 : Nat) (x1 : Int32) (res : Int32) (k9 n9 : Nat) (H : Heap) (locs : List Loc) (g : JFrame) : Prop := W p l e (headSpec (ws_ yX4_isOrder cX4_isOrder 2 (some .boolean)) ({ frames := 1, cells := 0, slots := 0, locals := 25 } : Room)).room s m ([.ref a0, .int x1] : List Value).toArray below meth c H locs k9 n9 (MQ below (ep_Qi G ep_cl h res) ([.ref a0, .int x1] : List Value).toArray s 0 0 (ep_A G)) g
set_option maxHeartbeats 4000000 in
theorem metX4_isOrder (l : Launch) (G : EG) (h : Hp) (a0 : Nat) (x1 : Int32) {res : Int32} (hf : fX4_isOrder h a0 x1 = some res) : Met l yX4_isOrder (ws_ yX4_isOrder cX4_isOrder 2 (some .boolean)) ({ frames := 1, cells := 0, slots := 0, locals := 25 } : Room) (ep_Pc G ep_cl h [.ref a0, .int x1]) (ep_Qi G ep_cl h res) 0 0 (ep_A G) := by
  refine Met.ofW (cc := cX4_isOrder) (maxL := 2) (ret := (some .boolean)) (by decide) rfl ?_
  intro p e s m args below meth c s₁ B hml hv
  obtain ⟨rfl, hR, hK, hZ⟩ := hv
  have hx := B.exec
  have hb := B.bytes
  have hr := B.returns
  have hlocks := B.notSynchronized
  have hts := atoms_spec (ws := (ws_ yX4_isOrder cX4_isOrder 2 (some .boolean))) B.pre
  have hts : ∀ w ∈ lw_all, w.before _ s = true := fun w h => hts w (List.mem_cons_of_mem _ h)
  have hown : s.vm.findClass RX4 = some m.cls := findClass_of_methodNamed B.named
  have hw : ep_W G ep_cl h s s.heap [] := ⟨hR, va_S.rf⟩
  have hl := lv_entry ([.ref a0, .int x1]) (n := 2) (Nat.le_of_ble_eq_true rfl)
  rw [lg_entry_eq]
  generalize (lg_sl ([.ref a0, .int x1]) ++ List.replicate (2 - (lg_sl ([.ref a0, .int x1])).length) Slot.unset).toArray = ls at hl ⊢
  have hl : lv_has ls 2 [(0, .ref a0), (1, .int x1)] := hl
  unfold fX4_isOrder at hf
  have hf := (oi_c hf).2
  show wX4_isOrder p l e s m below meth c G h a0 x1 res 0 0 s.heap ([]) (F0 m 0 ls [])
  refine lv_iload_n hx hb dX4_isOrder_0 rfl (lv_at hl 1 rfl) ?_
  refine lv_i2l (v := x1.toInt64) hx hb dX4_isOrder_1 rfl ?_
  refine lv_lconst (v := lI 0) hx hb dX4_isOrder_2 (by decide) ?_
  refine lv_aload_n hx hb dX4_isOrder_3 rfl (lv_at hl 0 rfl) ?_
  obtain ⟨v1, ev1, hf⟩ := ob_s hf
  refine ep_get (C := RX4) (T := TX4) (N := 32) (ci := 4) hx hb hts in_X4 hown hK hw rfl 5 (by decide) q1144 (gI_f ev1) dX4_isOrder_4 ?_
  refine lv_iconst (v := iI 1) hx hb dX4_isOrder_7 rfl ?_
  refine lv_isub hx hb dX4_isOrder_8 ?_
  refine lv_i2l (v := (v1 - (iI 1)).toInt64) hx hb dX4_isOrder_9 rfl ?_
  obtain ⟨v2, ev2, hf⟩ := ob_s hf
  refine ep_calli0 (va_runS (As := [.long x1.toInt64, .long (lI 0), .long ((v1 - (iI 1)).toInt64)]) (rest := []) ⟨hx, hb, hml, hown, hts⟩ (metX4_in l G h x1.toInt64 (lI 0) ((v1 - (iI 1)).toInt64) ev2) (va_cwS 3 hts (lw_S q1242 q1243 q89 q1244) rfl rfl rfl hsX4_in ⟨Nat.le_of_ble_eq_true rfl, Nat.le_of_ble_eq_true rfl⟩) (ep_preS hK hZ hw) rfl rfl hl.1 rfl (lv_room (Nat.le_of_ble_eq_true rfl)) dX4_isOrder_10 ⟨Nat.le_of_ble_eq_true rfl, Nat.le_of_ble_eq_true rfl⟩) hw (fun H locs hw => ?_)
  obtain ⟨z, ez, hf⟩ := ob_s hf
  obtain ⟨hz, hn⟩ := ckZ_s ez
  rw [hz] at hf
  exact ep_retzR hx hb hr hn hlocks hw hf dX4_isOrder_13
theorem hdX4_order : yX4_order.cls = RX4 ∧ yX4_order.cls ≠ "java/lang/invoke/MethodHandle" ∧ yX4_order.cls ≠ "java/lang/invoke/VarHandle" ∧ (parseMethodDescriptor yX4_order.desc).map (fun d => d.parameters.length) = some 2 := by decide +kernel
theorem ckX4_order {h : Hp} {a0 : Nat} {x1 : Int32} {x2 : Int32} {res : Int32} (hf : fX4_order h a0 x1 x2 = some res) : ep_cls h a0 = some 4 := by
  unfold fX4_order at hf
  exact (oi_c hf).1
abbrev wX4_order (p : Program) (l : Launch) (e : Env) (s : State) (m : MethodId) (below : List Frame) (meth : Method) (c : Code) (G : EG) (h : Hp) (a0 : Nat) (x1 : Int32) (x2 : Int32) (res : Int32) (k9 n9 : Nat) (H : Heap) (locs : List Loc) (g : JFrame) : Prop := W p l e (headSpec (ws_ yX4_order cX4_order 4 (some .int)) ({ frames := 2, cells := 0, slots := 0, locals := 46 } : Room)).room s m ([.ref a0, .int x1, .int x2] : List Value).toArray below meth c H locs k9 n9 (MQ below (ep_Qi G ep_cl h res) ([.ref a0, .int x1, .int x2] : List Value).toArray s 0 0 (ep_A G)) g
set_option maxHeartbeats 4000000 in
theorem metX4_order (l : Launch) (G : EG) (h : Hp) (a0 : Nat) (x1 : Int32) (x2 : Int32) {res : Int32} (hf : fX4_order h a0 x1 x2 = some res) : Met l yX4_order (ws_ yX4_order cX4_order 4 (some .int)) ({ frames := 2, cells := 0, slots := 0, locals := 46 } : Room) (ep_Pc G ep_cl h [.ref a0, .int x1, .int x2]) (ep_Qi G ep_cl h res) 0 0 (ep_A G) := by
  refine Met.ofW (cc := cX4_order) (maxL := 4) (ret := (some .int)) (by decide) rfl ?_
  intro p e s m args below meth c s₁ B hml hv
  obtain ⟨rfl, hR, hK, hZ⟩ := hv
  have hx := B.exec
  have hb := B.bytes
  have hr := B.returns
  have hlocks := B.notSynchronized
  have hts := atoms_spec (ws := (ws_ yX4_order cX4_order 4 (some .int))) B.pre
  have hts : ∀ w ∈ lw_all, w.before _ s = true := fun w h => hts w (List.mem_cons_of_mem _ h)
  have hown : s.vm.findClass RX4 = some m.cls := findClass_of_methodNamed B.named
  have hw : ep_W G ep_cl h s s.heap [] := ⟨hR, va_S.rf⟩
  have hl := lv_entry ([.ref a0, .int x1, .int x2]) (n := 4) (Nat.le_of_ble_eq_true rfl)
  rw [lg_entry_eq]
  generalize (lg_sl ([.ref a0, .int x1, .int x2]) ++ List.replicate (4 - (lg_sl ([.ref a0, .int x1, .int x2])).length) Slot.unset).toArray = ls at hl ⊢
  have hl : lv_has ls 4 [(0, .ref a0), (1, .int x1), (2, .int x2)] := hl
  unfold fX4_order at hf
  have hf := (oi_c hf).2
  show wX4_order p l e s m below meth c G h a0 x1 x2 res 0 0 s.heap ([]) (F0 m 0 ls [])
  refine lv_aload_n hx hb dX4_order_0 rfl (lv_at hl 0 rfl) ?_
  refine lv_iload_n hx hb dX4_order_1 rfl (lv_at hl 1 rfl) ?_
  obtain ⟨v1, ev1, hf⟩ := ob_s hf
  refine ep_calli0 (va_runV (As := [.int x1]) (rest := []) ⟨hx, hb, hml, hown, hts⟩ (metX4_isOrder l G h a0 x1 ev1) (cwV 1 hts (lw_V q1380 q1382 qs59 q89 q1383) rfl rfl rfl hdX4_isOrder ⟨Nat.le_of_ble_eq_true rfl, Nat.le_of_ble_eq_true rfl⟩) (ep_preV hK hZ hw rfl (ckX4_isOrder ev1)) rfl rfl hl.1 rfl (lv_room (Nat.le_of_ble_eq_true rfl)) dX4_order_2 ⟨Nat.le_of_ble_eq_true rfl, Nat.le_of_ble_eq_true rfl⟩) hw (fun H locs hw => ?_)
  refine lv_if_ne (tgt := 10) hx hb dX4_order_5 (by decide) (fun c2 => ?_) (fun c2 => ?_)
  · have hf := oi_f hf c2
    refine lv_bipush (v := iI 8) hx hb dX4_order_10 (by decide) ?_
    refine lv_iload_n hx hb dX4_order_12 rfl (lv_at hl 1 rfl) ?_
    refine lv_imul hx hb dX4_order_13 ?_
    refine lv_istore_n (lv' := [(3, .int ((iI 8) * x1)), (0, .ref a0), (1, .int x1), (2, .int x2)]) hx hb dX4_order_14 rfl hl (by decide) rfl (fun ls hl => ?_)
    refine lv_iload_n hx hb dX4_order_15 rfl (lv_at hl 3 rfl) ?_
    by_cases c3 : x2 = iI 0
    · have hf := oi_t hf c3
      refine lv_tableIn (off := 32) (tgt := 48) hx hb dX4_order_16 (by rw [ep_swIn c3 (by decide)]; decide) (by rw [ep_swIn c3 (by decide)]; decide) (by rw [ep_swIn c3 (by decide)]; rfl) (by decide) ?_
      refine lv_aload_n hx hb dX4_order_48 rfl (lv_at hl 1 rfl) ?_
      obtain ⟨r7, er7, hf⟩ := ob_s hf
      refine ep_get (C := RX4) (T := TX4) (N := 32) (ci := 4) hx hb hts in_X4 hown hK hw rfl 6 (by decide) q1145 (gR_f er7) dX4_order_49 ?_
      refine lv_iload_n hx hb dX4_order_52 rfl (lv_at hl 0 rfl) ?_
      refine lv_bipush (v := iI 6) hx hb dX4_order_53 (by decide) ?_
      refine lv_iadd hx hb dX4_order_55 ?_
      obtain ⟨v8, ev8, hf⟩ := ob_s hf
      refine ep_iald hx hb hK hw ev8 dX4_order_56 ?_
      exact ep_retiR hx hb hr hlocks hw hf dX4_order_57
    · have hf := oi_f hf c3
      by_cases c4 : x2 = iI 1
      · have hf := oi_t hf c4
        refine lv_tableIn (off := 42) (tgt := 58) hx hb dX4_order_16 (by rw [ep_swIn c4 (by decide)]; decide) (by rw [ep_swIn c4 (by decide)]; decide) (by rw [ep_swIn c4 (by decide)]; rfl) (by decide) ?_
        refine lv_aload_n hx hb dX4_order_58 rfl (lv_at hl 1 rfl) ?_
        obtain ⟨r9, er9, hf⟩ := ob_s hf
        refine ep_get (C := RX4) (T := TX4) (N := 32) (ci := 4) hx hb hts in_X4 hown hK hw rfl 6 (by decide) q1145 (gR_f er9) dX4_order_59 ?_
        refine lv_iload_n hx hb dX4_order_62 rfl (lv_at hl 0 rfl) ?_
        refine lv_bipush (v := iI 7) hx hb dX4_order_63 (by decide) ?_
        refine lv_iadd hx hb dX4_order_65 ?_
        obtain ⟨v10, ev10, hf⟩ := ob_s hf
        refine ep_iald hx hb hK hw ev10 dX4_order_66 ?_
        exact ep_retiR hx hb hr hlocks hw hf dX4_order_67
      · have hf := oi_f hf c4
        by_cases c5 : x2 = iI 2
        · have hf := oi_t hf c5
          refine lv_tableIn (off := 52) (tgt := 68) hx hb dX4_order_16 (by rw [ep_swIn c5 (by decide)]; decide) (by rw [ep_swIn c5 (by decide)]; decide) (by rw [ep_swIn c5 (by decide)]; rfl) (by decide) ?_
          refine lv_aload_n hx hb dX4_order_68 rfl (lv_at hl 1 rfl) ?_
          obtain ⟨r11, er11, hf⟩ := ob_s hf
          refine ep_get (C := RX4) (T := TX4) (N := 32) (ci := 4) hx hb hts in_X4 hown hK hw rfl 6 (by decide) q1145 (gR_f er11) dX4_order_69 ?_
          refine lv_iload_n hx hb dX4_order_72 rfl (lv_at hl 0 rfl) ?_
          refine lv_iconst (v := iI 0) hx hb dX4_order_73 rfl ?_
          refine lv_iadd hx hb dX4_order_74 ?_
          obtain ⟨v12, ev12, hf⟩ := ob_s hf
          refine ep_iald hx hb hK hw ev12 dX4_order_75 ?_
          exact ep_retiR hx hb hr hlocks hw hf dX4_order_76
        · have hf := oi_f hf c5
          by_cases c6 : x2 = iI 3
          · have hf := oi_t hf c6
            refine lv_tableIn (off := 61) (tgt := 77) hx hb dX4_order_16 (by rw [ep_swIn c6 (by decide)]; decide) (by rw [ep_swIn c6 (by decide)]; decide) (by rw [ep_swIn c6 (by decide)]; rfl) (by decide) ?_
            refine lv_aload_n hx hb dX4_order_77 rfl (lv_at hl 1 rfl) ?_
            obtain ⟨r13, er13, hf⟩ := ob_s hf
            refine ep_get (C := RX4) (T := TX4) (N := 32) (ci := 4) hx hb hts in_X4 hown hK hw rfl 0 (by decide) q1139 (gR_f er13) dX4_order_78 ?_
            refine lv_bipush (v := iI 53) hx hb dX4_order_81 (by decide) ?_
            obtain ⟨v14, ev14, hf⟩ := ob_s hf
            refine ep_iald hx hb hK hw ev14 dX4_order_83 ?_
            refine lv_iload_n hx hb dX4_order_84 rfl (lv_at hl 2 rfl) ?_
            refine lv_ishr hx hb dX4_order_85 ?_
            refine lv_iconst (v := iI 1) hx hb dX4_order_86 rfl ?_
            refine lv_iand hx hb dX4_order_87 ?_
            exact ep_retiR hx hb hr hlocks hw hf dX4_order_88
          · have hf := oi_f hf c6
            refine lv_tableOut (tgt := 89) hx hb dX4_order_16 (ep_swOut (n := 4) (x := x2) (by decide) (lt_s (lt_s (lt_s (lt_s lt_0 c3) c4) c5) c6)) (by decide) ?_
            refine lv_iload_n hx hb dX4_order_89 rfl (lv_at hl 3 rfl) ?_
            refine lv_bipush (v := iI 10) hx hb dX4_order_90 (by decide) ?_
            refine lv_isub hx hb dX4_order_92 ?_
            refine lv_i2l (v := (x2 - (iI 10)).toInt64) hx hb dX4_order_93 rfl ?_
            refine lv_lconst (v := lI 0) hx hb dX4_order_94 (by decide) ?_
            refine lv_aload_n hx hb dX4_order_95 rfl (lv_at hl 1 rfl) ?_
            obtain ⟨r15, er15, hf⟩ := ob_s hf
            refine ep_get (C := RX4) (T := TX4) (N := 32) (ci := 4) hx hb hts in_X4 hown hK hw rfl 6 (by decide) q1145 (gR_f er15) dX4_order_96 ?_
            refine lv_iload_n hx hb dX4_order_99 rfl (lv_at hl 0 rfl) ?_
            refine lv_iconst (v := iI 0) hx hb dX4_order_100 rfl ?_
            refine lv_iadd hx hb dX4_order_101 ?_
            obtain ⟨v16, ev16, hf⟩ := ob_s hf
            refine ep_iald hx hb hK hw ev16 dX4_order_102 ?_
            refine lv_iconst (v := iI 1) hx hb dX4_order_103 rfl ?_
            refine lv_isub hx hb dX4_order_104 ?_
            refine lv_i2l (v := (v16 - (iI 1)).toInt64) hx hb dX4_order_105 rfl ?_
            obtain ⟨v17, ev17, hf⟩ := ob_s hf
            refine ep_calli0 (va_runS (As := [.long ((x2 - (iI 10)).toInt64), .long (lI 0), .long ((v16 - (iI 1)).toInt64)]) (rest := []) ⟨hx, hb, hml, hown, hts⟩ (metX4_in l G h ((x2 - (iI 10)).toInt64) (lI 0) ((v16 - (iI 1)).toInt64) ev17) (va_cwS 3 hts (lw_S q1242 q1243 q89 q1244) rfl rfl rfl hsX4_in ⟨Nat.le_of_ble_eq_true rfl, Nat.le_of_ble_eq_true rfl⟩) (ep_preS hK hZ hw) rfl rfl hl.1 rfl (lv_room (Nat.le_of_ble_eq_true rfl)) dX4_order_106 ⟨Nat.le_of_ble_eq_true rfl, Nat.le_of_ble_eq_true rfl⟩) hw (fun H locs hw => ?_)
            refine lv_if_eq (tgt := 128) hx hb dX4_order_109 (by decide) (fun c18 => ?_) (fun c18 => ?_)
            · have hf := oi_t hf c18
              refine lv_iconst (v := iI (-1)) hx hb dX4_order_128 rfl ?_
              exact ep_retiR hx hb hr hlocks hw hf dX4_order_129
            · have hf := oi_f hf c18
              refine lv_aload_n hx hb dX4_order_112 rfl (lv_at hl 1 rfl) ?_
              obtain ⟨r19, er19, hf⟩ := ob_s hf
              refine ep_get (C := RX4) (T := TX4) (N := 32) (ci := 4) hx hb hts in_X4 hown hK hw rfl 6 (by decide) q1145 (gR_f er19) dX4_order_113 ?_
              refine lv_iload_n hx hb dX4_order_116 rfl (lv_at hl 0 rfl) ?_
              refine lv_iconst (v := iI 1) hx hb dX4_order_117 rfl ?_
              refine lv_iadd hx hb dX4_order_118 ?_
              refine lv_iload_n hx hb dX4_order_119 rfl (lv_at hl 3 rfl) ?_
              refine lv_iadd hx hb dX4_order_120 ?_
              refine lv_bipush (v := iI 10) hx hb dX4_order_121 (by decide) ?_
              refine lv_isub hx hb dX4_order_123 ?_
              obtain ⟨v20, ev20, hf⟩ := ob_s hf
              refine ep_iald hx hb hK hw ev20 dX4_order_124 ?_
              refine lv_goto (tgt := 129) hx hb dX4_order_125 (by decide) ?_
              exact ep_retiR hx hb hr hlocks hw hf dX4_order_129
  · have hf := oi_t hf c2
    refine lv_iconst (v := iI (-1)) hx hb dX4_order_8 rfl ?_
    exact ep_retiR hx hb hr hlocks hw hf dX4_order_9
theorem hsX4_bitsOf : yX4_bitsOf.cls ≠ "java/lang/invoke/MethodHandle" ∧ yX4_bitsOf.cls ≠ "java/lang/invoke/VarHandle" ∧ (parseMethodDescriptor yX4_bitsOf.desc).map (fun d => d.parameters.length) = some 1 := by decide +kernel
abbrev wX4_bitsOf (p : Program) (l : Launch) (e : Env) (s : State) (m : MethodId) (below : List Frame) (meth : Method) (c : Code) (G : EG) (h : Hp) (x0 : Int32) (res : Int32) (k9 n9 : Nat) (H : Heap) (locs : List Loc) (g : JFrame) : Prop := W p l e (headSpec (ws_ yX4_bitsOf cX4_bitsOf 3 (some .int)) ({ frames := 0, cells := 0, slots := 0, locals := 0 } : Room)).room s m ([.int x0] : List Value).toArray below meth c H locs k9 n9 (MQ below (ep_Qi G ep_cl h res) ([.int x0] : List Value).toArray s 0 0 (ep_A G)) g
set_option maxHeartbeats 4000000 in
theorem metX4_bitsOf (l : Launch) (G : EG) (h : Hp) (x0 : Int32) {res : Int32} (hf : fX4_bitsOf x0 = some res) : Met l yX4_bitsOf (ws_ yX4_bitsOf cX4_bitsOf 3 (some .int)) ({ frames := 0, cells := 0, slots := 0, locals := 0 } : Room) (ep_Pc G ep_cl h [.int x0]) (ep_Qi G ep_cl h res) 0 0 (ep_A G) := by
  refine Met.ofW (cc := cX4_bitsOf) (maxL := 3) (ret := (some .int)) (by decide) rfl ?_
  intro p e s m args below meth c s₁ B hml hv
  obtain ⟨rfl, hR, hK, hZ⟩ := hv
  have hx := B.exec
  have hb := B.bytes
  have hr := B.returns
  have hlocks := B.notSynchronized
  have hts := atoms_spec (ws := (ws_ yX4_bitsOf cX4_bitsOf 3 (some .int))) B.pre
  have hts : ∀ w ∈ lw_all, w.before _ s = true := fun w h => hts w (List.mem_cons_of_mem _ h)
  have hown : s.vm.findClass RX4 = some m.cls := findClass_of_methodNamed B.named
  have hw : ep_W G ep_cl h s s.heap [] := ⟨hR, va_S.rf⟩
  have hl := lv_entry ([.int x0]) (n := 3) (Nat.le_of_ble_eq_true rfl)
  rw [lg_entry_eq]
  generalize (lg_sl ([.int x0]) ++ List.replicate (3 - (lg_sl ([.int x0])).length) Slot.unset).toArray = ls at hl ⊢
  have hl : lv_has ls 3 [(0, .int x0)] := hl
  unfold fX4_bitsOf at hf
  show wX4_bitsOf p l e s m below meth c G h x0 res 0 0 s.heap ([]) (F0 m 0 ls [])
  refine lv_iconst (v := iI 0) hx hb dX4_bitsOf_0 rfl ?_
  refine lv_istore_n (lv' := [(1, .int (iI 0)), (0, .int x0)]) hx hb dX4_bitsOf_1 rfl hl (by decide) rfl (fun ls hl => ?_)
  refine lv_iconst (v := iI 0) hx hb dX4_bitsOf_2 rfl ?_
  refine lv_istore_n (lv' := [(2, .int (iI 0)), (1, .int (iI 0)), (0, .int x0)]) hx hb dX4_bitsOf_3 rfl hl (by decide) rfl (fun ls hl => ?_)
  obtain ⟨o1, ho1, hf⟩ := ob_s hf
  have hJ1 : ∀ (H : Heap) (locs : List Loc) (ls : Array Slot), ep_W G ep_cl h s H locs → lv_has ls 3 [(1, .int o1)] → wX4_bitsOf p l e s m below meth c G h x0 res 0 0 H locs (F0 m 23 ls []) := by
    intro H locs ls hw hl
    refine lv_iload_n hx hb dX4_bitsOf_23 rfl (lv_at hl 0 rfl) ?_
    exact ep_retiR hx hb hr hlocks hw hf dX4_bitsOf_24
  have hL1 : ∀ (fu : Nat) (x1 : Int32) (x2 : Int32), fX4_bitsOf_L4 x0 fu x1 x2 = some o1 → ∀ (H : Heap) (locs : List Loc) (ls : Array Slot), ep_W G ep_cl h s H locs → lv_has ls 3 [(0, .int x0), (1, .int x1), (2, .int x2)] → wX4_bitsOf p l e s m below meth c G h x0 res 0 0 H locs (F0 m 4 ls []) := by
    intro fu
    induction fu with
    | zero => intro x1 x2 ho1; cases ho1
    | succ fu ih1 =>
      intro x1 x2 ho1 H locs ls hw hl
      rw [fX4_bitsOf_L4] at ho1
      refine lv_iload_n hx hb dX4_bitsOf_4 rfl (lv_at hl 2 rfl) ?_
      refine lv_iconst (v := iI 5) hx hb dX4_bitsOf_5 rfl ?_
      refine lv_icmp_ge (tgt := 23) hx hb dX4_bitsOf_6 (by decide) (fun c2 => ?_) (fun c2 => ?_)
      · have ho1 := oi_t ho1 c2
        obtain rfl := Option.some.inj ho1
        exact hJ1 _ _ _ hw (lv_sub hl [1] rfl)
      · have ho1 := oi_f ho1 c2
        refine lv_iload_n hx hb dX4_bitsOf_9 rfl (lv_at hl 1 rfl) ?_
        refine lv_iload_n hx hb dX4_bitsOf_10 rfl (lv_at hl 0 rfl) ?_
        refine lv_iload_n hx hb dX4_bitsOf_11 rfl (lv_at hl 2 rfl) ?_
        refine lv_ishr hx hb dX4_bitsOf_12 ?_
        refine lv_iconst (v := iI 1) hx hb dX4_bitsOf_13 rfl ?_
        refine lv_iand hx hb dX4_bitsOf_14 ?_
        refine lv_iadd hx hb dX4_bitsOf_15 ?_
        refine lv_istore_n (lv' := [(1, .int (x1 + ((x0 >>> (x2 &&& 31)) &&& (iI 1)))), (0, .int x0), (2, .int x2)]) hx hb dX4_bitsOf_16 rfl hl (by decide) rfl (fun ls hl => ?_)
        refine lv_iinc (v := (x2 + iI 1)) (lv' := [(2, .int (x2 + iI 1)), (1, .int (x1 + ((x0 >>> (x2 &&& 31)) &&& (iI 1)))), (0, .int x0)]) hx hb dX4_bitsOf_17 hl (k := 2) rfl rfl (by decide) rfl (fun ls hl => ?_)
        refine lv_goto (tgt := 4) hx hb dX4_bitsOf_20 (by decide) ?_
        exact ih1 _ _ ho1 _ _ _ hw (lv_sub hl [2, 1, 0] rfl)
  exact hL1 FUEL _ _ ho1 _ _ _ hw (lv_sub hl [2, 1, 0] rfl)
theorem hdX4_becomes : yX4_becomes.cls = RX4 ∧ yX4_becomes.cls ≠ "java/lang/invoke/MethodHandle" ∧ yX4_becomes.cls ≠ "java/lang/invoke/VarHandle" ∧ (parseMethodDescriptor yX4_becomes.desc).map (fun d => d.parameters.length) = some 2 := by decide +kernel
theorem ckX4_becomes {h : Hp} {a0 : Nat} {x1 : Int32} {x2 : Int32} {res : Int32 × Hp} (hf : fX4_becomes h a0 x1 x2 = some res) : ep_cls h a0 = some 4 := by
  unfold fX4_becomes at hf
  exact (oi_c hf).1
abbrev wX4_becomes (p : Program) (l : Launch) (e : Env) (s : State) (m : MethodId) (below : List Frame) (meth : Method) (c : Code) (G : EG) (h : Hp) (a0 : Nat) (x1 : Int32) (x2 : Int32) (res : Int32 × Hp) (k9 n9 : Nat) (H : Heap) (locs : List Loc) (g : JFrame) : Prop := W p l e (headSpec (ws_ yX4_becomes cX4_becomes 4 (some .int)) ({ frames := 0, cells := 0, slots := 0, locals := 0 } : Room)).room s m ([.ref a0, .int x1, .int x2] : List Value).toArray below meth c H locs k9 n9 (MQ below (ep_Qi G ep_cl res.2 res.1) ([.ref a0, .int x1, .int x2] : List Value).toArray s 0 0 (ep_A G)) g
set_option maxHeartbeats 4000000 in
theorem metX4_becomes (l : Launch) (G : EG) (h : Hp) (a0 : Nat) (x1 : Int32) (x2 : Int32) {res : Int32 × Hp} (hf : fX4_becomes h a0 x1 x2 = some res) : Met l yX4_becomes (ws_ yX4_becomes cX4_becomes 4 (some .int)) ({ frames := 0, cells := 0, slots := 0, locals := 0 } : Room) (ep_Pc G ep_cl h [.ref a0, .int x1, .int x2]) (ep_Qi G ep_cl res.2 res.1) 0 0 (ep_A G) := by
  refine Met.ofW (cc := cX4_becomes) (maxL := 4) (ret := (some .int)) (by decide) rfl ?_
  intro p e s m args below meth c s₁ B hml hv
  obtain ⟨rfl, hR, hK, hZ⟩ := hv
  have hx := B.exec
  have hb := B.bytes
  have hr := B.returns
  have hlocks := B.notSynchronized
  have hts := atoms_spec (ws := (ws_ yX4_becomes cX4_becomes 4 (some .int))) B.pre
  have hts : ∀ w ∈ lw_all, w.before _ s = true := fun w h => hts w (List.mem_cons_of_mem _ h)
  have hown : s.vm.findClass RX4 = some m.cls := findClass_of_methodNamed B.named
  have hw : ep_W G ep_cl h s s.heap [] := ⟨hR, va_S.rf⟩
  have hl := lv_entry ([.ref a0, .int x1, .int x2]) (n := 4) (Nat.le_of_ble_eq_true rfl)
  rw [lg_entry_eq]
  generalize (lg_sl ([.ref a0, .int x1, .int x2]) ++ List.replicate (4 - (lg_sl ([.ref a0, .int x1, .int x2])).length) Slot.unset).toArray = ls at hl ⊢
  have hl : lv_has ls 4 [(0, .ref a0), (1, .int x1), (2, .int x2)] := hl
  unfold fX4_becomes at hf
  have hf := (oi_c hf).2
  show wX4_becomes p l e s m below meth c G h a0 x1 x2 res 0 0 s.heap ([]) (F0 m 0 ls [])
  refine lv_aload_n hx hb dX4_becomes_0 rfl (lv_at hl 0 rfl) ?_
  obtain ⟨r1, er1, hf⟩ := ob_s hf
  refine ep_get (C := RX4) (T := TX4) (N := 32) (ci := 4) hx hb hts in_X4 hown hK hw rfl 0 (by decide) q1139 (gR_f er1) dX4_becomes_1 ?_
  refine lv_iload_n hx hb dX4_becomes_4 rfl (lv_at hl 1 rfl) ?_
  obtain ⟨v2, ev2, hf⟩ := ob_s hf
  refine ep_iald hx hb hK hw ev2 dX4_becomes_5 ?_
  refine lv_istore_n (lv' := [(3, .int v2), (0, .ref a0), (1, .int x1), (2, .int x2)]) hx hb dX4_becomes_6 rfl hl (by decide) rfl (fun ls hl => ?_)
  refine lv_aload_n hx hb dX4_becomes_7 rfl (lv_at hl 1 rfl) ?_
  obtain ⟨r3, er3, hf⟩ := ob_s hf
  refine ep_get (C := RX4) (T := TX4) (N := 32) (ci := 4) hx hb hts in_X4 hown hK hw rfl 0 (by decide) q1139 (gR_f er3) dX4_becomes_8 ?_
  refine lv_iload_n hx hb dX4_becomes_11 rfl (lv_at hl 2 rfl) ?_
  refine lv_iload_n hx hb dX4_becomes_12 rfl (lv_at hl 3 rfl) ?_
  obtain ⟨h4, eh4, hf⟩ := ob_s hf
  refine ep_iast hx hb hK hw eh4 dX4_becomes_13 (fun H locs hw => ?_)
  refine lv_iload_n hx hb dX4_becomes_14 rfl (lv_at hl 0 rfl) ?_
  exact ep_retiW hx hb hr hlocks hw hf dX4_becomes_15
theorem hdX4_drive : yX4_drive.cls = RX4 ∧ yX4_drive.cls ≠ "java/lang/invoke/MethodHandle" ∧ yX4_drive.cls ≠ "java/lang/invoke/VarHandle" ∧ (parseMethodDescriptor yX4_drive.desc).map (fun d => d.parameters.length) = some 2 := by decide +kernel
theorem ckX4_drive {h : Hp} {a0 : Nat} {x1 : Int32} {x2 : Int32} {res : Int32 × Hp} (hf : fX4_drive h a0 x1 x2 = some res) : ep_cls h a0 = some 4 := by
  unfold fX4_drive at hf
  exact (oi_c hf).1
abbrev wX4_drive (p : Program) (l : Launch) (e : Env) (s : State) (m : MethodId) (below : List Frame) (meth : Method) (c : Code) (G : EG) (h : Hp) (a0 : Nat) (x1 : Int32) (x2 : Int32) (res : Int32 × Hp) (k9 n9 : Nat) (H : Heap) (locs : List Loc) (g : JFrame) : Prop := W p l e (headSpec (ws_ yX4_drive cX4_drive 3 (some .int)) ({ frames := 2, cells := 0, slots := 0, locals := 46 } : Room)).room s m ([.ref a0, .int x1, .int x2] : List Value).toArray below meth c H locs k9 n9 (MQ below (ep_Qi G ep_cl res.2 res.1) ([.ref a0, .int x1, .int x2] : List Value).toArray s 0 0 (ep_A G)) g
set_option maxHeartbeats 4000000 in
theorem metX4_drive (l : Launch) (G : EG) (h : Hp) (a0 : Nat) (x1 : Int32) (x2 : Int32) {res : Int32 × Hp} (hf : fX4_drive h a0 x1 x2 = some res) : Met l yX4_drive (ws_ yX4_drive cX4_drive 3 (some .int)) ({ frames := 2, cells := 0, slots := 0, locals := 46 } : Room) (ep_Pc G ep_cl h [.ref a0, .int x1, .int x2]) (ep_Qi G ep_cl res.2 res.1) 0 0 (ep_A G) := by
  refine Met.ofW (cc := cX4_drive) (maxL := 3) (ret := (some .int)) (by decide) rfl ?_
  intro p e s m args below meth c s₁ B hml hv
  obtain ⟨rfl, hR, hK, hZ⟩ := hv
  have hx := B.exec
  have hb := B.bytes
  have hr := B.returns
  have hlocks := B.notSynchronized
  have hts := atoms_spec (ws := (ws_ yX4_drive cX4_drive 3 (some .int))) B.pre
  have hts : ∀ w ∈ lw_all, w.before _ s = true := fun w h => hts w (List.mem_cons_of_mem _ h)
  have hown : s.vm.findClass RX4 = some m.cls := findClass_of_methodNamed B.named
  have hw : ep_W G ep_cl h s s.heap [] := ⟨hR, va_S.rf⟩
  have hl := lv_entry ([.ref a0, .int x1, .int x2]) (n := 3) (Nat.le_of_ble_eq_true rfl)
  rw [lg_entry_eq]
  generalize (lg_sl ([.ref a0, .int x1, .int x2]) ++ List.replicate (3 - (lg_sl ([.ref a0, .int x1, .int x2])).length) Slot.unset).toArray = ls at hl ⊢
  have hl : lv_has ls 3 [(0, .ref a0), (1, .int x1), (2, .int x2)] := hl
  unfold fX4_drive at hf
  have hf := (oi_c hf).2
  show wX4_drive p l e s m below meth c G h a0 x1 x2 res 0 0 s.heap ([]) (F0 m 0 ls [])
  refine lv_aload_n hx hb dX4_drive_0 rfl (lv_at hl 0 rfl) ?_
  refine lv_iload_n hx hb dX4_drive_1 rfl (lv_at hl 1 rfl) ?_
  obtain ⟨v1, ev1, hf⟩ := ob_s hf
  refine ep_calli0 (va_runV (As := [.int x1]) (rest := []) ⟨hx, hb, hml, hown, hts⟩ (metX4_isEcho l G h a0 x1 ev1) (cwV 1 hts (lw_V q1352 q1354 qs54 q89 q1355) rfl rfl rfl hdX4_isEcho ⟨Nat.le_of_ble_eq_true rfl, Nat.le_of_ble_eq_true rfl⟩) (ep_preV hK hZ hw rfl (ckX4_isEcho ev1)) rfl rfl hl.1 rfl (lv_room (Nat.le_of_ble_eq_true rfl)) dX4_drive_2 ⟨Nat.le_of_ble_eq_true rfl, Nat.le_of_ble_eq_true rfl⟩) hw (fun H locs hw => ?_)
  refine lv_if_eq (tgt := 16) hx hb dX4_drive_5 (by decide) (fun c2 => ?_) (fun c2 => ?_)
  · have hf := oi_t hf c2
    refine lv_iconst (v := iI (-1)) hx hb dX4_drive_16 rfl ?_
    exact ep_retiW hx hb hr hlocks hw hf dX4_drive_17
  · have hf := oi_f hf c2
    refine lv_aload_n hx hb dX4_drive_8 rfl (lv_at hl 0 rfl) ?_
    refine lv_iload_n hx hb dX4_drive_9 rfl (lv_at hl 2 rfl) ?_
    obtain ⟨v3, ev3, hf⟩ := ob_s hf
    refine ep_calli0 (va_runV (As := [.int x2]) (rest := []) ⟨hx, hb, hml, hown, hts⟩ (metX4_isPen l G h a0 x2 ev3) (cwV 1 hts (lw_V q1343 q1345 qs53 q89 q1346) rfl rfl rfl hdX4_isPen ⟨Nat.le_of_ble_eq_true rfl, Nat.le_of_ble_eq_true rfl⟩) (ep_preV hK hZ hw rfl (ckX4_isPen ev3)) rfl rfl hl.1 rfl (lv_room (Nat.le_of_ble_eq_true rfl)) dX4_drive_10 ⟨Nat.le_of_ble_eq_true rfl, Nat.le_of_ble_eq_true rfl⟩) hw (fun H locs hw => ?_)
    refine lv_if_ne (tgt := 18) hx hb dX4_drive_13 (by decide) (fun c4 => ?_) (fun c4 => ?_)
    · have hf := oi_f hf c4
      refine lv_aload_n hx hb dX4_drive_18 rfl (lv_at hl 0 rfl) ?_
      obtain ⟨o5, eo5, hf⟩ := ob_s hf
      refine ep_callv0 (va_runV (As := []) (rest := []) ⟨hx, hb, hml, hown, hts⟩ (metX4_starts l G h a0 eo5) (cwV 0 hts (lw_V q1319 q1321 qs48 q89 q1322) rfl rfl rfl hdX4_starts ⟨Nat.le_of_ble_eq_true rfl, Nat.le_of_ble_eq_true rfl⟩) (ep_preV hK hZ hw rfl (ckX4_starts eo5)) rfl rfl hl.1 rfl (lv_room (Nat.le_of_ble_eq_true rfl)) dX4_drive_19 ⟨Nat.le_of_ble_eq_true rfl, Nat.le_of_ble_eq_true rfl⟩) hw (fun H locs hw => ?_)
      refine lv_aload_n hx hb dX4_drive_22 rfl (lv_at hl 0 rfl) ?_
      refine lv_iload_n hx hb dX4_drive_23 rfl (lv_at hl 1 rfl) ?_
      refine lv_iconst (v := iI 2) hx hb dX4_drive_24 rfl ?_
      obtain ⟨v6, ev6, hf⟩ := ob_s hf
      refine ep_calli0 (va_runV (As := [.int x1, .int (iI 2)]) (rest := []) ⟨hx, hb, hml, hown, hts⟩ (metX4_of l G o5 a0 x1 (iI 2) ev6) (cwV 2 hts (lw_V q1327 q1329 qs50 q89 q1330) rfl rfl rfl hdX4_of ⟨Nat.le_of_ble_eq_true rfl, Nat.le_of_ble_eq_true rfl⟩) (ep_preV hK hZ hw rfl (ckX4_of ev6)) rfl rfl hl.1 rfl (lv_room (Nat.le_of_ble_eq_true rfl)) dX4_drive_25 ⟨Nat.le_of_ble_eq_true rfl, Nat.le_of_ble_eq_true rfl⟩) hw (fun H locs hw => ?_)
      refine lv_iload_n hx hb dX4_drive_28 rfl (lv_at hl 2 rfl) ?_
      refine lv_icmp_eq (tgt := 40) hx hb dX4_drive_29 (by decide) (fun c7 => ?_) (fun c7 => ?_)
      · have hf := oi_t hf c7
        refine lv_bipush (v := iI (-2)) hx hb dX4_drive_40 (by decide) ?_
        exact ep_retiW hx hb hr hlocks hw hf dX4_drive_42
      · have hf := oi_f hf c7
        refine lv_aload_n hx hb dX4_drive_32 rfl (lv_at hl 0 rfl) ?_
        refine lv_iload_n hx hb dX4_drive_33 rfl (lv_at hl 1 rfl) ?_
        obtain ⟨v8, ev8, hf⟩ := ob_s hf
        refine ep_calli0 (va_runV (As := [.int x1]) (rest := []) ⟨hx, hb, hml, hown, hts⟩ (metX4_isSold l G o5 a0 x1 ev8) (cwV 1 hts (lw_V q1360 q1362 qs56 q89 q1363) rfl rfl rfl hdX4_isSold ⟨Nat.le_of_ble_eq_true rfl, Nat.le_of_ble_eq_true rfl⟩) (ep_preV hK hZ hw rfl (ckX4_isSold ev8)) rfl rfl hl.1 rfl (lv_room (Nat.le_of_ble_eq_true rfl)) dX4_drive_34 ⟨Nat.le_of_ble_eq_true rfl, Nat.le_of_ble_eq_true rfl⟩) hw (fun H locs hw => ?_)
        refine lv_if_eq (tgt := 43) hx hb dX4_drive_37 (by decide) (fun c9 => ?_) (fun c9 => ?_)
        · have hf := oi_t hf c9
          refine lv_aload_n hx hb dX4_drive_43 rfl (lv_at hl 0 rfl) ?_
          refine lv_iload_n hx hb dX4_drive_44 rfl (lv_at hl 2 rfl) ?_
          obtain ⟨v10, ev10, hf⟩ := ob_s hf
          refine ep_calli0 (va_runV (As := [.int x2]) (rest := []) ⟨hx, hb, hml, hown, hts⟩ (metX4_inPen l G o5 a0 x2 ev10) (cwV 1 hts (lw_V q1323 q1325 qs49 q89 q1326) rfl rfl rfl hdX4_inPen ⟨Nat.le_of_ble_eq_true rfl, Nat.le_of_ble_eq_true rfl⟩) (ep_preV hK hZ hw rfl (ckX4_inPen ev10)) rfl rfl hl.1 rfl (lv_room (Nat.le_of_ble_eq_true rfl)) dX4_drive_45 ⟨Nat.le_of_ble_eq_true rfl, Nat.le_of_ble_eq_true rfl⟩) hw (fun H locs hw => ?_)
          obtain ⟨v11, ev11, hf⟩ := ob_s hf
          refine ep_calli0 (va_runS (As := [.int v10]) (rest := []) ⟨hx, hb, hml, hown, hts⟩ (metX4_bitsOf l G o5 v10 ev11) (va_cwS 1 hts (lw_S q1388 q1389 q89 q1390) rfl rfl rfl hsX4_bitsOf ⟨Nat.le_of_ble_eq_true rfl, Nat.le_of_ble_eq_true rfl⟩) (ep_preS hK hZ hw) rfl rfl hl.1 rfl (lv_room (Nat.le_of_ble_eq_true rfl)) dX4_drive_48 ⟨Nat.le_of_ble_eq_true rfl, Nat.le_of_ble_eq_true rfl⟩) hw (fun H locs hw => ?_)
          refine lv_iconst (v := iI 3) hx hb dX4_drive_51 rfl ?_
          refine lv_icmp_ne (tgt := 60) hx hb dX4_drive_52 (by decide) (fun c12 => ?_) (fun c12 => ?_)
          · have hf := oi_f hf c12
            refine lv_aload_n hx hb dX4_drive_60 rfl (lv_at hl 0 rfl) ?_
            refine lv_bipush (v := iI 8) hx hb dX4_drive_61 (by decide) ?_
            refine lv_bipush (v := iI 9) hx hb dX4_drive_63 (by decide) ?_
            refine lv_iload_n hx hb dX4_drive_65 rfl (lv_at hl 1 rfl) ?_
            refine lv_imul hx hb dX4_drive_66 ?_
            refine lv_iadd hx hb dX4_drive_67 ?_
            refine lv_iconst (v := iI 2) hx hb dX4_drive_68 rfl ?_
            refine lv_iadd hx hb dX4_drive_69 ?_
            refine lv_iload_n hx hb dX4_drive_70 rfl (lv_at hl 2 rfl) ?_
            obtain ⟨o13, eo13, hf⟩ := ob_s hf
            refine ep_calli0 (va_runV (As := [.int (((iI 8) + ((iI 9) * x1)) + (iI 2)), .int x2]) (rest := []) ⟨hx, hb, hml, hown, hts⟩ (metX4_becomes l G o5 a0 (((iI 8) + ((iI 9) * x1)) + (iI 2)) x2 eo13) (cwV 2 hts (lw_V q1391 q1393 qs60 q89 q1394) rfl rfl rfl hdX4_becomes ⟨Nat.le_of_ble_eq_true rfl, Nat.le_of_ble_eq_true rfl⟩) (ep_preV hK hZ hw rfl (ckX4_becomes eo13)) rfl rfl hl.1 rfl (lv_room (Nat.le_of_ble_eq_true rfl)) dX4_drive_71 ⟨Nat.le_of_ble_eq_true rfl, Nat.le_of_ble_eq_true rfl⟩) hw (fun H locs hw => ?_)
            exact ep_retiW hx hb hr hlocks hw hf dX4_drive_74
          · have hf := oi_t hf c12
            refine lv_bipush (v := iI (-3)) hx hb dX4_drive_55 (by decide) ?_
            refine lv_goto (tgt := 74) hx hb dX4_drive_57 (by decide) ?_
            exact ep_retiW hx hb hr hlocks hw hf dX4_drive_74
        · have hf := oi_f hf c9
          refine lv_bipush (v := iI (-2)) hx hb dX4_drive_40 (by decide) ?_
          exact ep_retiW hx hb hr hlocks hw hf dX4_drive_42
    · have hf := oi_t hf c4
      refine lv_iconst (v := iI (-1)) hx hb dX4_drive_16 rfl ?_
      exact ep_retiW hx hb hr hlocks hw hf dX4_drive_17
