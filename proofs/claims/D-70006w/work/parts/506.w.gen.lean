/-! walks (printed by gen.py) -/
set_option maxRecDepth 100000
theorem hdX4_init : yX4_init.cls = RX4 ∧ yX4_init.cls ≠ "java/lang/invoke/MethodHandle" ∧ yX4_init.cls ≠ "java/lang/invoke/VarHandle" ∧ (parseMethodDescriptor yX4_init.desc).map (fun d => d.parameters.length) = some 0 := by decide +kernel
theorem ckX4_init {h : Hp} {a0 : Nat} {res : Hp} (hf : fX4_init h a0 = some res) : ep_cls h a0 = some 4 := by
  unfold fX4_init at hf
  exact (oi_c hf).1
abbrev wX4_init (p : Program) (l : Launch) (e : Env) (s : State) (m : MethodId) (below : List Frame) (meth : Method) (c : Code) (G : EG) (h : Hp) (a0 : Nat) (res : Hp) (k9 n9 : Nat) (H : Heap) (locs : List Loc) (g : JFrame) : Prop := W p l e (headSpec (ws_ yX4_init cX4_init 2 none) ({ frames := 1, cells := 13, slots := 1034, locals := 21 } : Room)).room s m ([.ref a0] : List Value).toArray below meth c H locs k9 n9 (MQ below (ep_Qv G ep_cl res) ([.ref a0] : List Value).toArray s 13 1034 (ep_A G)) g
set_option maxHeartbeats 4000000 in
theorem metX4_init (l : Launch) (G : EG) (h : Hp) (a0 : Nat) {res : Hp} (hf : fX4_init h a0 = some res) : Met l yX4_init (ws_ yX4_init cX4_init 2 none) ({ frames := 1, cells := 13, slots := 1034, locals := 21 } : Room) (ep_Pc G ep_cl h [.ref a0]) (ep_Qv G ep_cl res) 13 1034 (ep_A G) := by
  refine Met.ofW (cc := cX4_init) (maxL := 2) (ret := none) (by decide) rfl ?_
  intro p e s m args below meth c s₁ B hml hv
  obtain ⟨rfl, hR, hK, hZ⟩ := hv
  have hx := B.exec
  have hb := B.bytes
  have hr := B.returns
  have hlocks := B.notSynchronized
  have hts := atoms_spec (ws := (ws_ yX4_init cX4_init 2 none)) B.pre
  have hts : ∀ w ∈ lw_all, w.before _ s = true := fun w h => hts w (List.mem_cons_of_mem _ h)
  have hown : s.vm.findClass RX4 = some m.cls := findClass_of_methodNamed B.named
  have hin : meth.name = "<init>" := (name_of_methodNamed B.named B.method).1
  have hw : ep_W G ep_cl h s s.heap [] := ⟨hR, va_S.rf⟩
  have hl := lv_entry ([.ref a0]) (n := 2) (Nat.le_of_ble_eq_true rfl)
  rw [lg_entry_eq]
  generalize (lg_sl ([.ref a0]) ++ List.replicate (2 - (lg_sl ([.ref a0])).length) Slot.unset).toArray = ls at hl ⊢
  have hl : lv_has ls 2 [(0, .ref a0)] := hl
  unfold fX4_init at hf
  have hf := (oi_c hf).2
  show wX4_init p l e s m below meth c G h a0 res 0 0 s.heap ([]) (F0 m 0 ls [])
  refine lv_aload_n hx hb dX4_init_0 rfl (lv_at hl 0 rfl) ?_
  refine W.objInit hx hb hown (hts _ q1130) (hts _ q135) (hts _ q136) rfl (by rw [hml]; exact hl.1) rfl dX4_init_1 (Nat.le_of_ble_eq_true rfl) (Nat.le_of_ble_eq_true rfl) ?_
  refine W.eq (g2 := F0 m 4 ls []) rfl ?_
  refine lv_aload_n hx hb dX4_init_4 rfl (lv_at hl 0 rfl) ?_
  refine lv_sipush (v := iI 225) hx hb dX4_init_5 (by decide) ?_
  obtain ⟨h1, eh1, hf⟩ := ob_s hf
  refine ep_newaH 0 225 hx hb hts (atype := .int) q199 rfl (by decide) rfl (fun _ _ => rfl) hK hw (by decide) (Nat.le_of_ble_eq_true rfl) (Nat.le_of_ble_eq_true rfl) eh1 dX4_init_8 (fun H locs hw => ?_)
  obtain ⟨h2, eh2, hf⟩ := ob_s hf
  refine ep_putF (C := RX4) (T := TX4) (N := 32) (ci := 4) hx hb hts in_X4 tyX4 tyX4_ok nmX4 hown hK hw rfl (by decide) 0 (by decide) q1139 rfl hin rfl rfl rfl eh2 dX4_init_10 (fun H locs hw => ?_)
  refine lv_aload_n hx hb dX4_init_13 rfl (lv_at hl 0 rfl) ?_
  refine lv_bipush (v := iI 75) hx hb dX4_init_14 (by decide) ?_
  obtain ⟨h3, eh3, hf⟩ := ob_s hf
  refine ep_newaH 0 75 hx hb hts (atype := .int) q199 rfl (by decide) rfl (fun _ _ => rfl) hK hw (by decide) (Nat.le_of_ble_eq_true rfl) (Nat.le_of_ble_eq_true rfl) eh3 dX4_init_16 (fun H locs hw => ?_)
  obtain ⟨h4, eh4, hf⟩ := ob_s hf
  refine ep_putF (C := RX4) (T := TX4) (N := 32) (ci := 4) hx hb hts in_X4 tyX4 tyX4_ok nmX4 hown hK hw rfl (by decide) 1 (by decide) q1140 rfl hin rfl rfl rfl eh4 dX4_init_18 (fun H locs hw => ?_)
  refine lv_aload_n hx hb dX4_init_21 rfl (lv_at hl 0 rfl) ?_
  refine lv_iconst (v := iI 2) hx hb dX4_init_22 rfl ?_
  obtain ⟨h5, eh5, hf⟩ := ob_s hf
  refine ep_newaH 3 2 hx hb hts (atype := .boolean) q1236 rfl (by decide) rfl (fun _ _ => rfl) hK hw (by decide) (Nat.le_of_ble_eq_true rfl) (Nat.le_of_ble_eq_true rfl) eh5 dX4_init_23 (fun H locs hw => ?_)
  obtain ⟨h6, eh6, hf⟩ := ob_s hf
  refine ep_putF (C := RX4) (T := TX4) (N := 32) (ci := 4) hx hb hts in_X4 tyX4 tyX4_ok nmX4 hown hK hw rfl (by decide) 2 (by decide) q1141 rfl hin rfl rfl rfl eh6 dX4_init_25 (fun H locs hw => ?_)
  refine lv_aload_n hx hb dX4_init_28 rfl (lv_at hl 0 rfl) ?_
  refine lv_bipush (v := iI 32) hx hb dX4_init_29 (by decide) ?_
  obtain ⟨h7, eh7, hf⟩ := ob_s hf
  refine ep_newaH 0 32 hx hb hts (atype := .int) q199 rfl (by decide) rfl (fun _ _ => rfl) hK hw (by decide) (Nat.le_of_ble_eq_true rfl) (Nat.le_of_ble_eq_true rfl) eh7 dX4_init_31 (fun H locs hw => ?_)
  obtain ⟨h8, eh8, hf⟩ := ob_s hf
  refine ep_putF (C := RX4) (T := TX4) (N := 32) (ci := 4) hx hb hts in_X4 tyX4 tyX4_ok nmX4 hown hK hw rfl (by decide) 6 (by decide) q1145 rfl hin rfl rfl rfl eh8 dX4_init_33 (fun H locs hw => ?_)
  refine lv_aload_n hx hb dX4_init_36 rfl (lv_at hl 0 rfl) ?_
  refine lv_bipush (v := iI 75) hx hb dX4_init_37 (by decide) ?_
  obtain ⟨h9, eh9, hf⟩ := ob_s hf
  refine ep_newaH 0 75 hx hb hts (atype := .int) q199 rfl (by decide) rfl (fun _ _ => rfl) hK hw (by decide) (Nat.le_of_ble_eq_true rfl) (Nat.le_of_ble_eq_true rfl) eh9 dX4_init_39 (fun H locs hw => ?_)
  obtain ⟨h10, eh10, hf⟩ := ob_s hf
  refine ep_putF (C := RX4) (T := TX4) (N := 32) (ci := 4) hx hb hts in_X4 tyX4 tyX4_ok nmX4 hown hK hw rfl (by decide) 7 (by decide) q1146 rfl hin rfl rfl rfl eh10 dX4_init_41 (fun H locs hw => ?_)
  refine lv_aload_n hx hb dX4_init_44 rfl (lv_at hl 0 rfl) ?_
  refine lv_bipush (v := iI 32) hx hb dX4_init_45 (by decide) ?_
  obtain ⟨h11, eh11, hf⟩ := ob_s hf
  refine ep_newaH 0 32 hx hb hts (atype := .int) q199 rfl (by decide) rfl (fun _ _ => rfl) hK hw (by decide) (Nat.le_of_ble_eq_true rfl) (Nat.le_of_ble_eq_true rfl) eh11 dX4_init_47 (fun H locs hw => ?_)
  obtain ⟨h12, eh12, hf⟩ := ob_s hf
  refine ep_putF (C := RX4) (T := TX4) (N := 32) (ci := 4) hx hb hts in_X4 tyX4 tyX4_ok nmX4 hown hK hw rfl (by decide) 11 (by decide) q1150 rfl hin rfl rfl rfl eh12 dX4_init_49 (fun H locs hw => ?_)
  refine lv_aload_n hx hb dX4_init_52 rfl (lv_at hl 0 rfl) ?_
  refine lv_sipush (v := iI 160) hx hb dX4_init_53 (by decide) ?_
  obtain ⟨h13, eh13, hf⟩ := ob_s hf
  refine ep_newaH 0 160 hx hb hts (atype := .int) q199 rfl (by decide) rfl (fun _ _ => rfl) hK hw (by decide) (Nat.le_of_ble_eq_true rfl) (Nat.le_of_ble_eq_true rfl) eh13 dX4_init_56 (fun H locs hw => ?_)
  obtain ⟨h14, eh14, hf⟩ := ob_s hf
  refine ep_putF (C := RX4) (T := TX4) (N := 32) (ci := 4) hx hb hts in_X4 tyX4 tyX4_ok nmX4 hown hK hw rfl (by decide) 13 (by decide) q1152 rfl hin rfl rfl rfl eh14 dX4_init_58 (fun H locs hw => ?_)
  refine lv_aload_n hx hb dX4_init_61 rfl (lv_at hl 0 rfl) ?_
  refine lv_iconst (v := iI 4) hx hb dX4_init_62 rfl ?_
  obtain ⟨h15, eh15, hf⟩ := ob_s hf
  refine ep_newaH 0 4 hx hb hts (atype := .int) q199 rfl (by decide) rfl (fun _ _ => rfl) hK hw (by decide) (Nat.le_of_ble_eq_true rfl) (Nat.le_of_ble_eq_true rfl) eh15 dX4_init_63 (fun H locs hw => ?_)
  obtain ⟨h16, eh16, hf⟩ := ob_s hf
  refine ep_putF (C := RX4) (T := TX4) (N := 32) (ci := 4) hx hb hts in_X4 tyX4 tyX4_ok nmX4 hown hK hw rfl (by decide) 21 (by decide) q1160 rfl hin rfl rfl rfl eh16 dX4_init_65 (fun H locs hw => ?_)
  refine lv_aload_n hx hb dX4_init_68 rfl (lv_at hl 0 rfl) ?_
  refine lv_sipush (v := iI 186) hx hb dX4_init_69 (by decide) ?_
  obtain ⟨h17, eh17, hf⟩ := ob_s hf
  refine ep_newaH 0 186 hx hb hts (atype := .int) q199 rfl (by decide) rfl (fun _ _ => rfl) hK hw (by decide) (Nat.le_of_ble_eq_true rfl) (Nat.le_of_ble_eq_true rfl) eh17 dX4_init_72 (fun H locs hw => ?_)
  obtain ⟨h18, eh18, hf⟩ := ob_s hf
  refine ep_putF (C := RX4) (T := TX4) (N := 32) (ci := 4) hx hb hts in_X4 tyX4 tyX4_ok nmX4 hown hK hw rfl (by decide) 26 (by decide) q1165 rfl hin rfl rfl rfl eh18 dX4_init_74 (fun H locs hw => ?_)
  refine lv_aload_n hx hb dX4_init_77 rfl (lv_at hl 0 rfl) ?_
  refine lv_iconst (v := iI 4) hx hb dX4_init_78 rfl ?_
  obtain ⟨h19, eh19, hf⟩ := ob_s hf
  refine ep_newaH 0 4 hx hb hts (atype := .int) q199 rfl (by decide) rfl (fun _ _ => rfl) hK hw (by decide) (Nat.le_of_ble_eq_true rfl) (Nat.le_of_ble_eq_true rfl) eh19 dX4_init_79 (fun H locs hw => ?_)
  obtain ⟨h20, eh20, hf⟩ := ob_s hf
  refine ep_putF (C := RX4) (T := TX4) (N := 32) (ci := 4) hx hb hts in_X4 tyX4 tyX4_ok nmX4 hown hK hw rfl (by decide) 27 (by decide) q1166 rfl hin rfl rfl rfl eh20 dX4_init_81 (fun H locs hw => ?_)
  refine lv_aload_n hx hb dX4_init_84 rfl (lv_at hl 0 rfl) ?_
  refine lv_iconst (v := iI 4) hx hb dX4_init_85 rfl ?_
  obtain ⟨h21, eh21, hf⟩ := ob_s hf
  refine ep_newaH 0 4 hx hb hts (atype := .int) q199 rfl (by decide) rfl (fun _ _ => rfl) hK hw (by decide) (Nat.le_of_ble_eq_true rfl) (Nat.le_of_ble_eq_true rfl) eh21 dX4_init_86 (fun H locs hw => ?_)
  obtain ⟨h22, eh22, hf⟩ := ob_s hf
  refine ep_putF (C := RX4) (T := TX4) (N := 32) (ci := 4) hx hb hts in_X4 tyX4 tyX4_ok nmX4 hown hK hw rfl (by decide) 28 (by decide) q1167 rfl hin rfl rfl rfl eh22 dX4_init_88 (fun H locs hw => ?_)
  refine lv_aload_n hx hb dX4_init_91 rfl (lv_at hl 0 rfl) ?_
  refine lv_sipush (v := iI 160) hx hb dX4_init_92 (by decide) ?_
  obtain ⟨h23, eh23, hf⟩ := ob_s hf
  refine ep_newaH 0 160 hx hb hts (atype := .int) q199 rfl (by decide) rfl (fun _ _ => rfl) hK hw (by decide) (Nat.le_of_ble_eq_true rfl) (Nat.le_of_ble_eq_true rfl) eh23 dX4_init_95 (fun H locs hw => ?_)
  obtain ⟨h24, eh24, hf⟩ := ob_s hf
  refine ep_putF (C := RX4) (T := TX4) (N := 32) (ci := 4) hx hb hts in_X4 tyX4 tyX4_ok nmX4 hown hK hw rfl (by decide) 29 (by decide) q1168 rfl hin rfl rfl rfl eh24 dX4_init_97 (fun H locs hw => ?_)
  refine lv_aload_n hx hb dX4_init_100 rfl (lv_at hl 0 rfl) ?_
  refine lv_bipush (v := iI 75) hx hb dX4_init_101 (by decide) ?_
  obtain ⟨h25, eh25, hf⟩ := ob_s hf
  refine ep_newaH 0 75 hx hb hts (atype := .int) q199 rfl (by decide) rfl (fun _ _ => rfl) hK hw (by decide) (Nat.le_of_ble_eq_true rfl) (Nat.le_of_ble_eq_true rfl) eh25 dX4_init_103 (fun H locs hw => ?_)
  obtain ⟨h26, eh26, hf⟩ := ob_s hf
  refine ep_putF (C := RX4) (T := TX4) (N := 32) (ci := 4) hx hb hts in_X4 tyX4 tyX4_ok nmX4 hown hK hw rfl (by decide) 31 (by decide) q1170 rfl hin rfl rfl rfl eh26 dX4_init_105 (fun H locs hw => ?_)
  refine lv_iconst (v := iI 0) hx hb dX4_init_108 rfl ?_
  refine lv_istore_n (lv' := [(1, .int (iI 0)), (0, .ref a0)]) hx hb dX4_init_109 rfl hl (by decide) rfl (fun ls hl => ?_)
  obtain ⟨o27, ho27, hf⟩ := ob_s hf
  have hJ27 : ∀ (H : Heap) (locs : List Loc) (ls : Array Slot), ep_W G ep_cl o27 s H locs → lv_has ls 2 [(0, .ref a0)] → wX4_init p l e s m below meth c G h a0 res 13 1034 H locs (F0 m 129 ls []) := by
    intro H locs ls hw hl
    refine lv_aload_n hx hb dX4_init_129 rfl (lv_at hl 0 rfl) ?_
    obtain ⟨o31, eo31, hf⟩ := ob_s hf
    refine ep_callv0 (va_runV (As := []) (rest := []) ⟨hx, hb, hml, hown, hts⟩ (metX4_firstDraft l G o27 a0 eo31) (cwV 0 hts (lw_V q1131 q1133 qs34 q89 q1134) rfl rfl rfl hdX4_firstDraft ⟨Nat.le_of_ble_eq_true rfl, Nat.le_of_ble_eq_true rfl⟩) (ep_preV hK hZ hw rfl (ckX4_firstDraft eo31)) rfl rfl hl.1 rfl (lv_room (Nat.le_of_ble_eq_true rfl)) dX4_init_130 ⟨Nat.le_of_ble_eq_true rfl, Nat.le_of_ble_eq_true rfl⟩) hw (fun H locs hw => ?_)
    refine lv_aload_n hx hb dX4_init_133 rfl (lv_at hl 0 rfl) ?_
    obtain ⟨o32, eo32, hf⟩ := ob_s hf
    refine ep_callv0 (va_runV (As := []) (rest := []) ⟨hx, hb, hml, hown, hts⟩ (metX4_keepDraft l G o31 a0 eo32) (cwV 0 hts (lw_V q1135 q1137 qs35 q89 q1138) rfl rfl rfl hdX4_keepDraft ⟨Nat.le_of_ble_eq_true rfl, Nat.le_of_ble_eq_true rfl⟩) (ep_preV hK hZ hw rfl (ckX4_keepDraft eo32)) rfl rfl hl.1 rfl (lv_room (Nat.le_of_ble_eq_true rfl)) dX4_init_134 ⟨Nat.le_of_ble_eq_true rfl, Nat.le_of_ble_eq_true rfl⟩) hw (fun H locs hw => ?_)
    exact ep_retvW hx hb hr hlocks hw hf dX4_init_137
  have hL27 : ∀ (fu : Nat) (h : Hp) (x1 : Int32), fX4_init_L110 a0 fu h x1 = some o27 → ∀ (H : Heap) (locs : List Loc) (ls : Array Slot), ep_W G ep_cl h s H locs → lv_has ls 2 [(0, .ref a0), (1, .int x1)] → wX4_init p l e s m below meth c G h a0 res 13 1034 H locs (F0 m 110 ls []) := by
    intro fu
    induction fu with
    | zero => intro h x1 ho27; cases ho27
    | succ fu ih27 =>
      intro h x1 ho27 H locs ls hw hl
      rw [fX4_init_L110] at ho27
      refine lv_iload_n hx hb dX4_init_110 rfl (lv_at hl 1 rfl) ?_
      refine lv_iconst (v := iI 4) hx hb dX4_init_111 rfl ?_
      refine lv_icmp_ge (tgt := 129) hx hb dX4_init_112 (by decide) (fun c28 => ?_) (fun c28 => ?_)
      · have ho27 := oi_t ho27 c28
        obtain rfl := Option.some.inj ho27
        exact hJ27 _ _ _ hw (lv_sub hl [0] rfl)
      · have ho27 := oi_f ho27 c28
        refine lv_aload_n hx hb dX4_init_115 rfl (lv_at hl 0 rfl) ?_
        obtain ⟨r29, er29, ho27⟩ := ob_s ho27
        refine ep_get (C := RX4) (T := TX4) (N := 32) (ci := 4) hx hb hts in_X4 hown hK hw rfl 27 (by decide) q1166 (gR_f er29) dX4_init_116 ?_
        refine lv_iload_n hx hb dX4_init_119 rfl (lv_at hl 1 rfl) ?_
        refine lv_bipush (v := iI (-4)) hx hb dX4_init_120 (by decide) ?_
        obtain ⟨h30, eh30, ho27⟩ := ob_s ho27
        refine ep_iast hx hb hK hw eh30 dX4_init_122 (fun H locs hw => ?_)
        refine lv_iinc (v := (x1 + iI 1)) (lv' := [(1, .int (x1 + iI 1)), (0, .ref a0)]) hx hb dX4_init_123 hl (k := 1) rfl rfl (by decide) rfl (fun ls hl => ?_)
        refine lv_goto (tgt := 110) hx hb dX4_init_126 (by decide) ?_
        exact ih27 _ _ ho27 _ _ _ hw (lv_sub hl [1, 0] rfl)
  exact hL27 FUEL _ _ ho27 _ _ _ hw (lv_sub hl [1, 0] rfl)
theorem hsX4_in : yX4_in.cls ≠ "java/lang/invoke/MethodHandle" ∧ yX4_in.cls ≠ "java/lang/invoke/VarHandle" ∧ (parseMethodDescriptor yX4_in.desc).map (fun d => d.parameters.length) = some 3 := by decide +kernel
abbrev wX4_in (p : Program) (l : Launch) (e : Env) (s : State) (m : MethodId) (below : List Frame) (meth : Method) (c : Code) (G : EG) (h : Hp) (x0 : Int64) (x2 : Int64) (x4 : Int64) (res : Int32) (k9 n9 : Nat) (H : Heap) (locs : List Loc) (g : JFrame) : Prop := W p l e (headSpec (ws_ yX4_in cX4_in 6 (some .boolean)) ({ frames := 0, cells := 0, slots := 0, locals := 0 } : Room)).room s m ([.long x0, .long x2, .long x4] : List Value).toArray below meth c H locs k9 n9 (MQ below (ep_Qi G ep_cl h res) ([.long x0, .long x2, .long x4] : List Value).toArray s 0 0 (ep_A G)) g
set_option maxHeartbeats 4000000 in
theorem metX4_in (l : Launch) (G : EG) (h : Hp) (x0 : Int64) (x2 : Int64) (x4 : Int64) {res : Int32} (hf : fX4_in x0 x2 x4 = some res) : Met l yX4_in (ws_ yX4_in cX4_in 6 (some .boolean)) ({ frames := 0, cells := 0, slots := 0, locals := 0 } : Room) (ep_Pc G ep_cl h [.long x0, .long x2, .long x4]) (ep_Qi G ep_cl h res) 0 0 (ep_A G) := by
  refine Met.ofW (cc := cX4_in) (maxL := 6) (ret := (some .boolean)) (by decide) rfl ?_
  intro p e s m args below meth c s₁ B hml hv
  obtain ⟨rfl, hR, hK, hZ⟩ := hv
  have hx := B.exec
  have hb := B.bytes
  have hr := B.returns
  have hlocks := B.notSynchronized
  have hts := atoms_spec (ws := (ws_ yX4_in cX4_in 6 (some .boolean))) B.pre
  have hts : ∀ w ∈ lw_all, w.before _ s = true := fun w h => hts w (List.mem_cons_of_mem _ h)
  have hown : s.vm.findClass RX4 = some m.cls := findClass_of_methodNamed B.named
  have hw : ep_W G ep_cl h s s.heap [] := ⟨hR, va_S.rf⟩
  have hl := lv_entry ([.long x0, .long x2, .long x4]) (n := 6) (Nat.le_of_ble_eq_true rfl)
  rw [lg_entry_eq]
  generalize (lg_sl ([.long x0, .long x2, .long x4]) ++ List.replicate (6 - (lg_sl ([.long x0, .long x2, .long x4])).length) Slot.unset).toArray = ls at hl ⊢
  have hl : lv_has ls 6 [(0, .long x0), (2, .long x2), (4, .long x4)] := hl
  unfold fX4_in at hf
  show wX4_in p l e s m below meth c G h x0 x2 x4 res 0 0 s.heap ([]) (F0 m 0 ls [])
  refine lv_lload_n hx hb dX4_in_0 rfl (lv_at hl 0 rfl) ?_
  refine lv_lload_n hx hb dX4_in_1 rfl (lv_at hl 1 rfl) ?_
  refine W.lcmp hx hb dX4_in_2 ?_
  refine lv_if_lt (tgt := 17) hx hb dX4_in_3 (by decide) (fun c1 => ?_) (fun c1 => ?_)
  · have hf := oi_t hf c1
    refine lv_iconst (v := iI 0) hx hb dX4_in_17 rfl ?_
    exact ep_retzR hx hb hr rfl hlocks hw hf dX4_in_18
  · have hf := oi_f hf c1
    refine lv_lload_n hx hb dX4_in_6 rfl (lv_at hl 0 rfl) ?_
    refine lv_lload hx hb dX4_in_7 (lv_at hl 2 rfl) ?_
    refine W.lcmp hx hb dX4_in_9 ?_
    refine lv_if_gt (tgt := 17) hx hb dX4_in_10 (by decide) (fun c2 => ?_) (fun c2 => ?_)
    · have hf := oi_t hf c2
      refine lv_iconst (v := iI 0) hx hb dX4_in_17 rfl ?_
      exact ep_retzR hx hb hr rfl hlocks hw hf dX4_in_18
    · have hf := oi_f hf c2
      refine lv_iconst (v := iI 1) hx hb dX4_in_13 rfl ?_
      refine lv_goto (tgt := 18) hx hb dX4_in_14 (by decide) ?_
      exact ep_retzR hx hb hr rfl hlocks hw hf dX4_in_18
theorem hdX4_feed : yX4_feed.cls = RX4 ∧ yX4_feed.cls ≠ "java/lang/invoke/MethodHandle" ∧ yX4_feed.cls ≠ "java/lang/invoke/VarHandle" ∧ (parseMethodDescriptor yX4_feed.desc).map (fun d => d.parameters.length) = some 1 := by decide +kernel
theorem ckX4_feed {h : Hp} {a0 : Nat} {x1 : Int32} {res : Int32 × Hp} (hf : fX4_feed h a0 x1 = some res) : ep_cls h a0 = some 4 := by
  unfold fX4_feed at hf
  exact (oi_c hf).1
abbrev wX4_feed (p : Program) (l : Launch) (e : Env) (s : State) (m : MethodId) (below : List Frame) (meth : Method) (c : Code) (G : EG) (h : Hp) (a0 : Nat) (x1 : Int32) (res : Int32 × Hp) (k9 n9 : Nat) (H : Heap) (locs : List Loc) (g : JFrame) : Prop := W p l e (headSpec (ws_ yX4_feed cX4_feed 2 (some .int)) ({ frames := 1, cells := 0, slots := 0, locals := 25 } : Room)).room s m ([.ref a0, .int x1] : List Value).toArray below meth c H locs k9 n9 (MQ below (ep_Qi G ep_cl res.2 res.1) ([.ref a0, .int x1] : List Value).toArray s 0 0 (ep_A G)) g
set_option maxHeartbeats 4000000 in
theorem metX4_feed (l : Launch) (G : EG) (h : Hp) (a0 : Nat) (x1 : Int32) {res : Int32 × Hp} (hf : fX4_feed h a0 x1 = some res) : Met l yX4_feed (ws_ yX4_feed cX4_feed 2 (some .int)) ({ frames := 1, cells := 0, slots := 0, locals := 25 } : Room) (ep_Pc G ep_cl h [.ref a0, .int x1]) (ep_Qi G ep_cl res.2 res.1) 0 0 (ep_A G) := by
  refine Met.ofW (cc := cX4_feed) (maxL := 2) (ret := (some .int)) (by decide) rfl ?_
  intro p e s m args below meth c s₁ B hml hv
  obtain ⟨rfl, hR, hK, hZ⟩ := hv
  have hx := B.exec
  have hb := B.bytes
  have hr := B.returns
  have hlocks := B.notSynchronized
  have hts := atoms_spec (ws := (ws_ yX4_feed cX4_feed 2 (some .int))) B.pre
  have hts : ∀ w ∈ lw_all, w.before _ s = true := fun w h => hts w (List.mem_cons_of_mem _ h)
  have hown : s.vm.findClass RX4 = some m.cls := findClass_of_methodNamed B.named
  have hw : ep_W G ep_cl h s s.heap [] := ⟨hR, va_S.rf⟩
  have hl := lv_entry ([.ref a0, .int x1]) (n := 2) (Nat.le_of_ble_eq_true rfl)
  rw [lg_entry_eq]
  generalize (lg_sl ([.ref a0, .int x1]) ++ List.replicate (2 - (lg_sl ([.ref a0, .int x1])).length) Slot.unset).toArray = ls at hl ⊢
  have hl : lv_has ls 2 [(0, .ref a0), (1, .int x1)] := hl
  unfold fX4_feed at hf
  have hf := (oi_c hf).2
  show wX4_feed p l e s m below meth c G h a0 x1 res 0 0 s.heap ([]) (F0 m 0 ls [])
  refine lv_iload_n hx hb dX4_feed_0 rfl (lv_at hl 1 rfl) ?_
  refine lv_i2l (v := x1.toInt64) hx hb dX4_feed_1 rfl ?_
  refine lv_lconst (v := lI 0) hx hb dX4_feed_2 (by decide) ?_
  refine lv_ldc2 (v := (127 : Int64)) hx hb hown (hts _ q1241) dX4_feed_3 ?_
  obtain ⟨v1, ev1, hf⟩ := ob_s hf
  refine ep_calli0 (va_runS (As := [.long x1.toInt64, .long (lI 0), .long (127 : Int64)]) (rest := []) ⟨hx, hb, hml, hown, hts⟩ (metX4_in l G h x1.toInt64 (lI 0) (127 : Int64) ev1) (va_cwS 3 hts (lw_S q1242 q1243 q89 q1244) rfl rfl rfl hsX4_in ⟨Nat.le_of_ble_eq_true rfl, Nat.le_of_ble_eq_true rfl⟩) (ep_preS hK hZ hw) rfl rfl hl.1 rfl (lv_room (Nat.le_of_ble_eq_true rfl)) dX4_feed_6 ⟨Nat.le_of_ble_eq_true rfl, Nat.le_of_ble_eq_true rfl⟩) hw (fun H locs hw => ?_)
  refine lv_if_ne (tgt := 14) hx hb dX4_feed_9 (by decide) (fun c2 => ?_) (fun c2 => ?_)
  · have hf := oi_f hf c2
    refine lv_aload_n hx hb dX4_feed_14 rfl (lv_at hl 0 rfl) ?_
    obtain ⟨v3, ev3, hf⟩ := ob_s hf
    refine ep_get (C := RX4) (T := TX4) (N := 32) (ci := 4) hx hb hts in_X4 hown hK hw rfl 14 (by decide) q1153 (gI_f ev3) dX4_feed_15 ?_
    refine lv_sipush (v := iI 160) hx hb dX4_feed_18 (by decide) ?_
    refine lv_icmp_ne (tgt := 27) hx hb dX4_feed_21 (by decide) (fun c4 => ?_) (fun c4 => ?_)
    · have hf := oi_f hf c4
      refine lv_aload_n hx hb dX4_feed_27 rfl (lv_at hl 0 rfl) ?_
      obtain ⟨r5, er5, hf⟩ := ob_s hf
      refine ep_get (C := RX4) (T := TX4) (N := 32) (ci := 4) hx hb hts in_X4 hown hK hw rfl 13 (by decide) q1152 (gR_f er5) dX4_feed_28 ?_
      refine lv_aload_n hx hb dX4_feed_31 rfl (lv_at hl 0 rfl) ?_
      obtain ⟨v6, ev6, hf⟩ := ob_s hf
      refine ep_get (C := RX4) (T := TX4) (N := 32) (ci := 4) hx hb hts in_X4 hown hK hw rfl 14 (by decide) q1153 (gI_f ev6) dX4_feed_32 ?_
      refine lv_iload_n hx hb dX4_feed_35 rfl (lv_at hl 1 rfl) ?_
      obtain ⟨h7, eh7, hf⟩ := ob_s hf
      refine ep_iast hx hb hK hw eh7 dX4_feed_36 (fun H locs hw => ?_)
      refine lv_aload_n hx hb dX4_feed_37 rfl (lv_at hl 0 rfl) ?_
      refine lv_dup hx hb dX4_feed_38 rfl ?_
      obtain ⟨v8, ev8, hf⟩ := ob_s hf
      refine ep_get (C := RX4) (T := TX4) (N := 32) (ci := 4) hx hb hts in_X4 hown hK hw rfl 14 (by decide) q1153 (gI_f ev8) dX4_feed_39 ?_
      refine lv_iconst (v := iI 1) hx hb dX4_feed_42 rfl ?_
      refine lv_iadd hx hb dX4_feed_43 ?_
      obtain ⟨h9, eh9, hf⟩ := ob_s hf
      refine ep_put (C := RX4) (T := TX4) (N := 32) (ci := 4) hx hb hts in_X4 tyX4 tyX4_ok nmX4 hown hK hw rfl (by decide) 14 (by decide) q1153 rfl rfl rfl eh9 dX4_feed_44 (fun H locs hw => ?_)
      refine lv_aload_n hx hb dX4_feed_47 rfl (lv_at hl 0 rfl) ?_
      obtain ⟨v10, ev10, hf⟩ := ob_s hf
      refine ep_get (C := RX4) (T := TX4) (N := 32) (ci := 4) hx hb hts in_X4 hown hK hw rfl 14 (by decide) q1153 (gI_f ev10) dX4_feed_48 ?_
      exact ep_retiW hx hb hr hlocks hw hf dX4_feed_51
    · have hf := oi_t hf c4
      refine lv_bipush (v := iI (-3)) hx hb dX4_feed_24 (by decide) ?_
      exact ep_retiW hx hb hr hlocks hw hf dX4_feed_26
  · have hf := oi_t hf c2
    refine lv_iconst (v := iI (-1)) hx hb dX4_feed_12 rfl ?_
    exact ep_retiW hx hb hr hlocks hw hf dX4_feed_13
theorem hdX4_end : yX4_end.cls = RX4 ∧ yX4_end.cls ≠ "java/lang/invoke/MethodHandle" ∧ yX4_end.cls ≠ "java/lang/invoke/VarHandle" ∧ (parseMethodDescriptor yX4_end.desc).map (fun d => d.parameters.length) = some 1 := by decide +kernel
theorem ckX4_end {h : Hp} {a0 : Nat} {x1 : Int32} {res : Int32 × Hp} (hf : fX4_end h a0 x1 = some res) : ep_cls h a0 = some 4 := by
  unfold fX4_end at hf
  exact (oi_c hf).1
abbrev wX4_end (p : Program) (l : Launch) (e : Env) (s : State) (m : MethodId) (below : List Frame) (meth : Method) (c : Code) (G : EG) (h : Hp) (a0 : Nat) (x1 : Int32) (res : Int32 × Hp) (k9 n9 : Nat) (H : Heap) (locs : List Loc) (g : JFrame) : Prop := W p l e (headSpec (ws_ yX4_end cX4_end 3 (some .int)) ({ frames := 1, cells := 0, slots := 0, locals := 25 } : Room)).room s m ([.ref a0, .int x1] : List Value).toArray below meth c H locs k9 n9 (MQ below (ep_Qi G ep_cl res.2 res.1) ([.ref a0, .int x1] : List Value).toArray s 0 0 (ep_A G)) g
set_option maxHeartbeats 4000000 in
theorem metX4_end (l : Launch) (G : EG) (h : Hp) (a0 : Nat) (x1 : Int32) {res : Int32 × Hp} (hf : fX4_end h a0 x1 = some res) : Met l yX4_end (ws_ yX4_end cX4_end 3 (some .int)) ({ frames := 1, cells := 0, slots := 0, locals := 25 } : Room) (ep_Pc G ep_cl h [.ref a0, .int x1]) (ep_Qi G ep_cl res.2 res.1) 0 0 (ep_A G) := by
  refine Met.ofW (cc := cX4_end) (maxL := 3) (ret := (some .int)) (by decide) rfl ?_
  intro p e s m args below meth c s₁ B hml hv
  obtain ⟨rfl, hR, hK, hZ⟩ := hv
  have hx := B.exec
  have hb := B.bytes
  have hr := B.returns
  have hlocks := B.notSynchronized
  have hts := atoms_spec (ws := (ws_ yX4_end cX4_end 3 (some .int))) B.pre
  have hts : ∀ w ∈ lw_all, w.before _ s = true := fun w h => hts w (List.mem_cons_of_mem _ h)
  have hown : s.vm.findClass RX4 = some m.cls := findClass_of_methodNamed B.named
  have hw : ep_W G ep_cl h s s.heap [] := ⟨hR, va_S.rf⟩
  have hl := lv_entry ([.ref a0, .int x1]) (n := 3) (Nat.le_of_ble_eq_true rfl)
  rw [lg_entry_eq]
  generalize (lg_sl ([.ref a0, .int x1]) ++ List.replicate (3 - (lg_sl ([.ref a0, .int x1])).length) Slot.unset).toArray = ls at hl ⊢
  have hl : lv_has ls 3 [(0, .ref a0), (1, .int x1)] := hl
  unfold fX4_end at hf
  have hf := (oi_c hf).2
  show wX4_end p l e s m below meth c G h a0 x1 res 0 0 s.heap ([]) (F0 m 0 ls [])
  refine lv_iload_n hx hb dX4_end_0 rfl (lv_at hl 1 rfl) ?_
  refine lv_i2l (v := x1.toInt64) hx hb dX4_end_1 rfl ?_
  refine lv_lconst (v := lI 0) hx hb dX4_end_2 (by decide) ?_
  refine lv_aload_n hx hb dX4_end_3 rfl (lv_at hl 0 rfl) ?_
  obtain ⟨v1, ev1, hf⟩ := ob_s hf
  refine ep_get (C := RX4) (T := TX4) (N := 32) (ci := 4) hx hb hts in_X4 hown hK hw rfl 14 (by decide) q1153 (gI_f ev1) dX4_end_4 ?_
  refine lv_i2l (v := v1.toInt64) hx hb dX4_end_7 rfl ?_
  obtain ⟨v2, ev2, hf⟩ := ob_s hf
  refine ep_calli0 (va_runS (As := [.long x1.toInt64, .long (lI 0), .long v1.toInt64]) (rest := []) ⟨hx, hb, hml, hown, hts⟩ (metX4_in l G h x1.toInt64 (lI 0) v1.toInt64 ev2) (va_cwS 3 hts (lw_S q1242 q1243 q89 q1244) rfl rfl rfl hsX4_in ⟨Nat.le_of_ble_eq_true rfl, Nat.le_of_ble_eq_true rfl⟩) (ep_preS hK hZ hw) rfl rfl hl.1 rfl (lv_room (Nat.le_of_ble_eq_true rfl)) dX4_end_8 ⟨Nat.le_of_ble_eq_true rfl, Nat.le_of_ble_eq_true rfl⟩) hw (fun H locs hw => ?_)
  refine lv_if_ne (tgt := 16) hx hb dX4_end_11 (by decide) (fun c3 => ?_) (fun c3 => ?_)
  · have hf := oi_f hf c3
    refine lv_aload_n hx hb dX4_end_16 rfl (lv_at hl 0 rfl) ?_
    obtain ⟨v4, ev4, hf⟩ := ob_s hf
    refine ep_get (C := RX4) (T := TX4) (N := 32) (ci := 4) hx hb hts in_X4 hown hK hw rfl 14 (by decide) q1153 (gI_f ev4) dX4_end_17 ?_
    refine lv_istore_n (lv' := [(2, .int v4), (0, .ref a0), (1, .int x1)]) hx hb dX4_end_20 rfl hl (by decide) rfl (fun ls hl => ?_)
    refine lv_aload_n hx hb dX4_end_21 rfl (lv_at hl 1 rfl) ?_
    refine lv_iload_n hx hb dX4_end_22 rfl (lv_at hl 2 rfl) ?_
    obtain ⟨h5, eh5, hf⟩ := ob_s hf
    refine ep_put (C := RX4) (T := TX4) (N := 32) (ci := 4) hx hb hts in_X4 tyX4 tyX4_ok nmX4 hown hK hw rfl (by decide) 14 (by decide) q1153 rfl rfl rfl eh5 dX4_end_23 (fun H locs hw => ?_)
    refine lv_iload_n hx hb dX4_end_26 rfl (lv_at hl 0 rfl) ?_
    exact ep_retiW hx hb hr hlocks hw hf dX4_end_27
  · have hf := oi_t hf c3
    refine lv_iconst (v := iI (-1)) hx hb dX4_end_14 rfl ?_
    exact ep_retiW hx hb hr hlocks hw hf dX4_end_15
theorem hdX4_byteAt : yX4_byteAt.cls = RX4 ∧ yX4_byteAt.cls ≠ "java/lang/invoke/MethodHandle" ∧ yX4_byteAt.cls ≠ "java/lang/invoke/VarHandle" ∧ (parseMethodDescriptor yX4_byteAt.desc).map (fun d => d.parameters.length) = some 1 := by decide +kernel
theorem ckX4_byteAt {h : Hp} {a0 : Nat} {x1 : Int32} {res : Int32} (hf : fX4_byteAt h a0 x1 = some res) : ep_cls h a0 = some 4 := by
  unfold fX4_byteAt at hf
  exact (oi_c hf).1
abbrev wX4_byteAt (p : Program) (l : Launch) (e : Env) (s : State) (m : MethodId) (below : List Frame) (meth : Method) (c : Code) (G : EG) (h : Hp) (a0 : Nat) (x1 : Int32) (res : Int32) (k9 n9 : Nat) (H : Heap) (locs : List Loc) (g : JFrame) : Prop := W p l e (headSpec (ws_ yX4_byteAt cX4_byteAt 2 (some .int)) ({ frames := 0, cells := 0, slots := 0, locals := 0 } : Room)).room s m ([.ref a0, .int x1] : List Value).toArray below meth c H locs k9 n9 (MQ below (ep_Qi G ep_cl h res) ([.ref a0, .int x1] : List Value).toArray s 0 0 (ep_A G)) g
set_option maxHeartbeats 4000000 in
theorem metX4_byteAt (l : Launch) (G : EG) (h : Hp) (a0 : Nat) (x1 : Int32) {res : Int32} (hf : fX4_byteAt h a0 x1 = some res) : Met l yX4_byteAt (ws_ yX4_byteAt cX4_byteAt 2 (some .int)) ({ frames := 0, cells := 0, slots := 0, locals := 0 } : Room) (ep_Pc G ep_cl h [.ref a0, .int x1]) (ep_Qi G ep_cl h res) 0 0 (ep_A G) := by
  refine Met.ofW (cc := cX4_byteAt) (maxL := 2) (ret := (some .int)) (by decide) rfl ?_
  intro p e s m args below meth c s₁ B hml hv
  obtain ⟨rfl, hR, hK, hZ⟩ := hv
  have hx := B.exec
  have hb := B.bytes
  have hr := B.returns
  have hlocks := B.notSynchronized
  have hts := atoms_spec (ws := (ws_ yX4_byteAt cX4_byteAt 2 (some .int))) B.pre
  have hts : ∀ w ∈ lw_all, w.before _ s = true := fun w h => hts w (List.mem_cons_of_mem _ h)
  have hown : s.vm.findClass RX4 = some m.cls := findClass_of_methodNamed B.named
  have hw : ep_W G ep_cl h s s.heap [] := ⟨hR, va_S.rf⟩
  have hl := lv_entry ([.ref a0, .int x1]) (n := 2) (Nat.le_of_ble_eq_true rfl)
  rw [lg_entry_eq]
  generalize (lg_sl ([.ref a0, .int x1]) ++ List.replicate (2 - (lg_sl ([.ref a0, .int x1])).length) Slot.unset).toArray = ls at hl ⊢
  have hl : lv_has ls 2 [(0, .ref a0), (1, .int x1)] := hl
  unfold fX4_byteAt at hf
  have hf := (oi_c hf).2
  show wX4_byteAt p l e s m below meth c G h a0 x1 res 0 0 s.heap ([]) (F0 m 0 ls [])
  refine lv_iload_n hx hb dX4_byteAt_0 rfl (lv_at hl 1 rfl) ?_
  refine lv_aload_n hx hb dX4_byteAt_1 rfl (lv_at hl 0 rfl) ?_
  obtain ⟨v1, ev1, hf⟩ := ob_s hf
  refine ep_get (C := RX4) (T := TX4) (N := 32) (ci := 4) hx hb hts in_X4 hown hK hw rfl 14 (by decide) q1153 (gI_f ev1) dX4_byteAt_2 ?_
  refine lv_icmp_ge (tgt := 17) hx hb dX4_byteAt_5 (by decide) (fun c2 => ?_) (fun c2 => ?_)
  · have hf := oi_t hf c2
    refine lv_iconst (v := iI (-1)) hx hb dX4_byteAt_17 rfl ?_
    exact ep_retiR hx hb hr hlocks hw hf dX4_byteAt_18
  · have hf := oi_f hf c2
    refine lv_aload_n hx hb dX4_byteAt_8 rfl (lv_at hl 0 rfl) ?_
    obtain ⟨r3, er3, hf⟩ := ob_s hf
    refine ep_get (C := RX4) (T := TX4) (N := 32) (ci := 4) hx hb hts in_X4 hown hK hw rfl 13 (by decide) q1152 (gR_f er3) dX4_byteAt_9 ?_
    refine lv_iload_n hx hb dX4_byteAt_12 rfl (lv_at hl 1 rfl) ?_
    obtain ⟨v4, ev4, hf⟩ := ob_s hf
    refine ep_iald hx hb hK hw ev4 dX4_byteAt_13 ?_
    refine lv_goto (tgt := 18) hx hb dX4_byteAt_14 (by decide) ?_
    exact ep_retiR hx hb hr hlocks hw hf dX4_byteAt_18
theorem hdX4_needs : yX4_needs.cls = RX4 ∧ yX4_needs.cls ≠ "java/lang/invoke/MethodHandle" ∧ yX4_needs.cls ≠ "java/lang/invoke/VarHandle" ∧ (parseMethodDescriptor yX4_needs.desc).map (fun d => d.parameters.length) = some 2 := by decide +kernel
theorem ckX4_needs {h : Hp} {a0 : Nat} {x1 : Int32} {x2 : Int32} {res : Hp} (hf : fX4_needs h a0 x1 x2 = some res) : ep_cls h a0 = some 4 := by
  unfold fX4_needs at hf
  exact (oi_c hf).1
abbrev wX4_needs (p : Program) (l : Launch) (e : Env) (s : State) (m : MethodId) (below : List Frame) (meth : Method) (c : Code) (G : EG) (h : Hp) (a0 : Nat) (x1 : Int32) (x2 : Int32) (res : Hp) (k9 n9 : Nat) (H : Heap) (locs : List Loc) (g : JFrame) : Prop := W p l e (headSpec (ws_ yX4_needs cX4_needs 3 none) ({ frames := 0, cells := 0, slots := 0, locals := 0 } : Room)).room s m ([.ref a0, .int x1, .int x2] : List Value).toArray below meth c H locs k9 n9 (MQ below (ep_Qv G ep_cl res) ([.ref a0, .int x1, .int x2] : List Value).toArray s 0 0 (ep_A G)) g
set_option maxHeartbeats 4000000 in
theorem metX4_needs (l : Launch) (G : EG) (h : Hp) (a0 : Nat) (x1 : Int32) (x2 : Int32) {res : Hp} (hf : fX4_needs h a0 x1 x2 = some res) : Met l yX4_needs (ws_ yX4_needs cX4_needs 3 none) ({ frames := 0, cells := 0, slots := 0, locals := 0 } : Room) (ep_Pc G ep_cl h [.ref a0, .int x1, .int x2]) (ep_Qv G ep_cl res) 0 0 (ep_A G) := by
  refine Met.ofW (cc := cX4_needs) (maxL := 3) (ret := none) (by decide) rfl ?_
  intro p e s m args below meth c s₁ B hml hv
  obtain ⟨rfl, hR, hK, hZ⟩ := hv
  have hx := B.exec
  have hb := B.bytes
  have hr := B.returns
  have hlocks := B.notSynchronized
  have hts := atoms_spec (ws := (ws_ yX4_needs cX4_needs 3 none)) B.pre
  have hts : ∀ w ∈ lw_all, w.before _ s = true := fun w h => hts w (List.mem_cons_of_mem _ h)
  have hown : s.vm.findClass RX4 = some m.cls := findClass_of_methodNamed B.named
  have hw : ep_W G ep_cl h s s.heap [] := ⟨hR, va_S.rf⟩
  have hl := lv_entry ([.ref a0, .int x1, .int x2]) (n := 3) (Nat.le_of_ble_eq_true rfl)
  rw [lg_entry_eq]
  generalize (lg_sl ([.ref a0, .int x1, .int x2]) ++ List.replicate (3 - (lg_sl ([.ref a0, .int x1, .int x2])).length) Slot.unset).toArray = ls at hl ⊢
  have hl : lv_has ls 3 [(0, .ref a0), (1, .int x1), (2, .int x2)] := hl
  unfold fX4_needs at hf
  have hf := (oi_c hf).2
  show wX4_needs p l e s m below meth c G h a0 x1 x2 res 0 0 s.heap ([]) (F0 m 0 ls [])
  refine lv_iload_n hx hb dX4_needs_0 rfl (lv_at hl 1 rfl) ?_
  refine lv_if_ne (tgt := 24) hx hb dX4_needs_1 (by decide) (fun c1 => ?_) (fun c1 => ?_)
  · have hf := oi_f hf c1
    exact ep_retvW hx hb hr hlocks hw hf dX4_needs_24
  · have hf := oi_t hf c1
    refine lv_aload_n hx hb dX4_needs_4 rfl (lv_at hl 0 rfl) ?_
    obtain ⟨v2, ev2, hf⟩ := ob_s hf
    refine ep_get (C := RX4) (T := TX4) (N := 32) (ci := 4) hx hb hts in_X4 hown hK hw rfl 19 (by decide) q1158 (gI_f ev2) dX4_needs_5 ?_
    refine lv_if_ne (tgt := 24) hx hb dX4_needs_8 (by decide) (fun c3 => ?_) (fun c3 => ?_)
    · have hf := oi_f hf c3
      exact ep_retvW hx hb hr hlocks hw hf dX4_needs_24
    · have hf := oi_t hf c3
      refine lv_aload_n hx hb dX4_needs_11 rfl (lv_at hl 0 rfl) ?_
      refine lv_iload_n hx hb dX4_needs_12 rfl (lv_at hl 2 rfl) ?_
      obtain ⟨h4, eh4, hf⟩ := ob_s hf
      refine ep_put (C := RX4) (T := TX4) (N := 32) (ci := 4) hx hb hts in_X4 tyX4 tyX4_ok nmX4 hown hK hw rfl (by decide) 19 (by decide) q1158 rfl rfl rfl eh4 dX4_needs_13 (fun H locs hw => ?_)
      refine lv_aload_n hx hb dX4_needs_16 rfl (lv_at hl 0 rfl) ?_
      refine lv_aload_n hx hb dX4_needs_17 rfl (lv_at hl 0 rfl) ?_
      obtain ⟨v5, ev5, hf⟩ := ob_s hf
      refine ep_get (C := RX4) (T := TX4) (N := 32) (ci := 4) hx hb hts in_X4 hown hK hw rfl 16 (by decide) q1155 (gI_f ev5) dX4_needs_18 ?_
      obtain ⟨h6, eh6, hf⟩ := ob_s hf
      refine ep_put (C := RX4) (T := TX4) (N := 32) (ci := 4) hx hb hts in_X4 tyX4 tyX4_ok nmX4 hown hK hw rfl (by decide) 20 (by decide) q1159 rfl rfl rfl eh6 dX4_needs_21 (fun H locs hw => ?_)
      exact ep_retvW hx hb hr hlocks hw hf dX4_needs_24
theorem hdX4_next : yX4_next.cls = RX4 ∧ yX4_next.cls ≠ "java/lang/invoke/MethodHandle" ∧ yX4_next.cls ≠ "java/lang/invoke/VarHandle" ∧ (parseMethodDescriptor yX4_next.desc).map (fun d => d.parameters.length) = some 0 := by decide +kernel
theorem ckX4_next {h : Hp} {a0 : Nat} {res : Hp} (hf : fX4_next h a0 = some res) : ep_cls h a0 = some 4 := by
  unfold fX4_next at hf
  exact (oi_c hf).1
abbrev wX4_next (p : Program) (l : Launch) (e : Env) (s : State) (m : MethodId) (below : List Frame) (meth : Method) (c : Code) (G : EG) (h : Hp) (a0 : Nat) (res : Hp) (k9 n9 : Nat) (H : Heap) (locs : List Loc) (g : JFrame) : Prop := W p l e (headSpec (ws_ yX4_next cX4_next 2 none) ({ frames := 1, cells := 0, slots := 0, locals := 25 } : Room)).room s m ([.ref a0] : List Value).toArray below meth c H locs k9 n9 (MQ below (ep_Qv G ep_cl res) ([.ref a0] : List Value).toArray s 0 0 (ep_A G)) g
set_option maxHeartbeats 4000000 in
theorem metX4_next (l : Launch) (G : EG) (h : Hp) (a0 : Nat) {res : Hp} (hf : fX4_next h a0 = some res) : Met l yX4_next (ws_ yX4_next cX4_next 2 none) ({ frames := 1, cells := 0, slots := 0, locals := 25 } : Room) (ep_Pc G ep_cl h [.ref a0]) (ep_Qv G ep_cl res) 0 0 (ep_A G) := by
  refine Met.ofW (cc := cX4_next) (maxL := 2) (ret := none) (by decide) rfl ?_
  intro p e s m args below meth c s₁ B hml hv
  obtain ⟨rfl, hR, hK, hZ⟩ := hv
  have hx := B.exec
  have hb := B.bytes
  have hr := B.returns
  have hlocks := B.notSynchronized
  have hts := atoms_spec (ws := (ws_ yX4_next cX4_next 2 none)) B.pre
  have hts : ∀ w ∈ lw_all, w.before _ s = true := fun w h => hts w (List.mem_cons_of_mem _ h)
  have hown : s.vm.findClass RX4 = some m.cls := findClass_of_methodNamed B.named
  have hw : ep_W G ep_cl h s s.heap [] := ⟨hR, va_S.rf⟩
  have hl := lv_entry ([.ref a0]) (n := 2) (Nat.le_of_ble_eq_true rfl)
  rw [lg_entry_eq]
  generalize (lg_sl ([.ref a0]) ++ List.replicate (2 - (lg_sl ([.ref a0])).length) Slot.unset).toArray = ls at hl ⊢
  have hl : lv_has ls 2 [(0, .ref a0)] := hl
  unfold fX4_next at hf
  have hf := (oi_c hf).2
  show wX4_next p l e s m below meth c G h a0 res 0 0 s.heap ([]) (F0 m 0 ls [])
  refine lv_aload_n hx hb dX4_next_0 rfl (lv_at hl 0 rfl) ?_
  obtain ⟨v1, ev1, hf⟩ := ob_s hf
  refine ep_get (C := RX4) (T := TX4) (N := 32) (ci := 4) hx hb hts in_X4 hown hK hw rfl 19 (by decide) q1158 (gI_f ev1) dX4_next_1 ?_
  refine lv_if_le (tgt := 8) hx hb dX4_next_4 (by decide) (fun c2 => ?_) (fun c2 => ?_)
  · have hf := oi_t hf c2
    obtain ⟨o3, ho3, hf⟩ := ob_s hf
    have hJ3 : ∀ (H : Heap) (locs : List Loc) (ls : Array Slot), ep_W G ep_cl o3 s H locs → lv_has ls 2 [(0, .ref a0)] → wX4_next p l e s m below meth c G h a0 res 0 0 H locs (F0 m 34 ls []) := by
      intro H locs ls hw hl
      refine lv_aload_n hx hb dX4_next_34 rfl (lv_at hl 0 rfl) ?_
      refine lv_aload_n hx hb dX4_next_35 rfl (lv_at hl 0 rfl) ?_
      obtain ⟨v9, ev9, hf⟩ := ob_s hf
      refine ep_get (C := RX4) (T := TX4) (N := 32) (ci := 4) hx hb hts in_X4 hown hK hw rfl 15 (by decide) q1154 (gI_f ev9) dX4_next_36 ?_
      obtain ⟨h10, eh10, hf⟩ := ob_s hf
      refine ep_put (C := RX4) (T := TX4) (N := 32) (ci := 4) hx hb hts in_X4 tyX4 tyX4_ok nmX4 hown hK hw rfl (by decide) 16 (by decide) q1155 rfl rfl rfl eh10 dX4_next_39 (fun H locs hw => ?_)
      refine lv_aload_n hx hb dX4_next_42 rfl (lv_at hl 0 rfl) ?_
      refine lv_aload_n hx hb dX4_next_43 rfl (lv_at hl 0 rfl) ?_
      obtain ⟨v11, ev11, hf⟩ := ob_s hf
      refine ep_get (C := RX4) (T := TX4) (N := 32) (ci := 4) hx hb hts in_X4 hown hK hw rfl 15 (by decide) q1154 (gI_f ev11) dX4_next_44 ?_
      obtain ⟨v12, ev12, hf⟩ := ob_s hf
      refine ep_calli0 (va_runV (As := [.int v11]) (rest := []) ⟨hx, hb, hml, hown, hts⟩ (metX4_byteAt l G h10 a0 v11 ev12) (cwV 1 hts (lw_V q1257 q1259 qs37 q89 q1260) rfl rfl rfl hdX4_byteAt ⟨Nat.le_of_ble_eq_true rfl, Nat.le_of_ble_eq_true rfl⟩) (ep_preV hK hZ hw rfl (ckX4_byteAt ev12)) rfl rfl hl.1 rfl (lv_room (Nat.le_of_ble_eq_true rfl)) dX4_next_47 ⟨Nat.le_of_ble_eq_true rfl, Nat.le_of_ble_eq_true rfl⟩) hw (fun H locs hw => ?_)
      refine lv_istore_n (lv' := [(1, .int v12), (0, .ref a0)]) hx hb dX4_next_50 rfl hl (by decide) rfl (fun ls hl => ?_)
      refine lv_iload_n hx hb dX4_next_51 rfl (lv_at hl 0 rfl) ?_
      refine lv_if_ge (tgt := 63) hx hb dX4_next_52 (by decide) (fun c13 => ?_) (fun c13 => ?_)
      · have hf := oi_t hf c13
        refine lv_iload_n hx hb dX4_next_63 rfl (lv_at hl 0 rfl) ?_
        refine lv_i2l (v := v12.toInt64) hx hb dX4_next_64 rfl ?_
        refine lv_ldc2 (v := (97 : Int64)) hx hb hown (hts _ q1261) dX4_next_65 ?_
        refine lv_ldc2 (v := (122 : Int64)) hx hb hown (hts _ q1262) dX4_next_68 ?_
        obtain ⟨v14, ev14, hf⟩ := ob_s hf
        refine ep_calli0 (va_runS (As := [.long v12.toInt64, .long (97 : Int64), .long (122 : Int64)]) (rest := []) ⟨hx, hb, hml, hown, hts⟩ (metX4_in l G h10 v12.toInt64 (97 : Int64) (122 : Int64) ev14) (va_cwS 3 hts (lw_S q1242 q1243 q89 q1244) rfl rfl rfl hsX4_in ⟨Nat.le_of_ble_eq_true rfl, Nat.le_of_ble_eq_true rfl⟩) (ep_preS hK hZ hw) rfl rfl hl.1 rfl (lv_room (Nat.le_of_ble_eq_true rfl)) dX4_next_71 ⟨Nat.le_of_ble_eq_true rfl, Nat.le_of_ble_eq_true rfl⟩) hw (fun H locs hw => ?_)
        refine lv_if_eq (tgt := 116) hx hb dX4_next_74 (by decide) (fun c15 => ?_) (fun c15 => ?_)
        · have hf := oi_t hf c15
          refine lv_iload_n hx hb dX4_next_116 rfl (lv_at hl 0 rfl) ?_
          refine lv_i2l (v := v12.toInt64) hx hb dX4_next_117 rfl ?_
          refine lv_ldc2 (v := (48 : Int64)) hx hb hown (hts _ q1263) dX4_next_118 ?_
          refine lv_ldc2 (v := (57 : Int64)) hx hb hown (hts _ q1264) dX4_next_121 ?_
          obtain ⟨v16, ev16, hf⟩ := ob_s hf
          refine ep_calli0 (va_runS (As := [.long v12.toInt64, .long (48 : Int64), .long (57 : Int64)]) (rest := []) ⟨hx, hb, hml, hown, hts⟩ (metX4_in l G h10 v12.toInt64 (48 : Int64) (57 : Int64) ev16) (va_cwS 3 hts (lw_S q1242 q1243 q89 q1244) rfl rfl rfl hsX4_in ⟨Nat.le_of_ble_eq_true rfl, Nat.le_of_ble_eq_true rfl⟩) (ep_preS hK hZ hw) rfl rfl hl.1 rfl (lv_room (Nat.le_of_ble_eq_true rfl)) dX4_next_124 ⟨Nat.le_of_ble_eq_true rfl, Nat.le_of_ble_eq_true rfl⟩) hw (fun H locs hw => ?_)
          refine lv_if_eq (tgt := 243) hx hb dX4_next_127 (by decide) (fun c17 => ?_) (fun c17 => ?_)
          · have hf := oi_t hf c17
            refine lv_aload_n hx hb dX4_next_243 rfl (lv_at hl 1 rfl) ?_
            refine lv_iconst (v := iI 3) hx hb dX4_next_244 rfl ?_
            obtain ⟨h18, eh18, hf⟩ := ob_s hf
            refine ep_put (C := RX4) (T := TX4) (N := 32) (ci := 4) hx hb hts in_X4 tyX4 tyX4_ok nmX4 hown hK hw rfl (by decide) 17 (by decide) q1156 rfl rfl rfl eh18 dX4_next_245 (fun H locs hw => ?_)
            refine lv_aload_n hx hb dX4_next_248 rfl (lv_at hl 1 rfl) ?_
            refine lv_iload_n hx hb dX4_next_249 rfl (lv_at hl 0 rfl) ?_
            refine lv_bipush (v := iI 59) hx hb dX4_next_250 (by decide) ?_
            have hJ19 : wX4_next p l e s m below meth c G h a0 res 0 0 H locs (F0 m 260 ls [.int (if v12 = (iI 59) then iI 1 else iI 0), .ref a0]) := by
              refine lv_iconst (v := iI 1) hx hb dX4_next_260 rfl ?_
              obtain ⟨o21, eo21, hf⟩ := ob_s hf
              refine ep_callv0 (va_runV (As := [.int (if v12 = (iI 59) then iI 1 else iI 0), .int (iI 1)]) (rest := []) ⟨hx, hb, hml, hown, hts⟩ (metX4_needs l G h18 a0 (if v12 = (iI 59) then iI 1 else iI 0) (iI 1) eo21) (cwV 2 hts (lw_V q1265 q1267 qs38 q89 q1268) rfl rfl rfl hdX4_needs ⟨Nat.le_of_ble_eq_true rfl, Nat.le_of_ble_eq_true rfl⟩) (ep_preV hK hZ hw rfl (ckX4_needs eo21)) rfl rfl hl.1 rfl (lv_room (Nat.le_of_ble_eq_true rfl)) dX4_next_261 ⟨Nat.le_of_ble_eq_true rfl, Nat.le_of_ble_eq_true rfl⟩) hw (fun H locs hw => ?_)
              refine lv_aload_n hx hb dX4_next_264 rfl (lv_at hl 1 rfl) ?_
              refine lv_dup hx hb dX4_next_265 rfl ?_
              obtain ⟨v22, ev22, hf⟩ := ob_s hf
              refine ep_get (C := RX4) (T := TX4) (N := 32) (ci := 4) hx hb hts in_X4 hown hK hw rfl 15 (by decide) q1154 (gI_f ev22) dX4_next_266 ?_
              refine lv_iconst (v := iI 1) hx hb dX4_next_269 rfl ?_
              refine lv_iadd hx hb dX4_next_270 ?_
              obtain ⟨h23, eh23, hf⟩ := ob_s hf
              refine ep_put (C := RX4) (T := TX4) (N := 32) (ci := 4) hx hb hts in_X4 tyX4 tyX4_ok nmX4 hown hK hw rfl (by decide) 15 (by decide) q1154 rfl rfl rfl eh23 dX4_next_271 (fun H locs hw => ?_)
              exact ep_retvW hx hb hr hlocks hw hf dX4_next_274
            refine lv_icmp_ne (tgt := 259) hx hb dX4_next_252 (by decide) (fun c20 => ?_) (fun c20 => ?_)
            · refine lv_iconst (v := iI 0) hx hb dX4_next_259 rfl ?_
              rw [if_neg c20] at hJ19
              exact hJ19
            · refine lv_iconst (v := iI 1) hx hb dX4_next_255 rfl ?_
              refine lv_goto (tgt := 260) hx hb dX4_next_256 (by decide) ?_
              rw [if_pos c20] at hJ19
              exact hJ19
          · have hf := oi_f hf c17
            refine lv_aload_n hx hb dX4_next_130 rfl (lv_at hl 1 rfl) ?_
            refine lv_iconst (v := iI 2) hx hb dX4_next_131 rfl ?_
            obtain ⟨h24, eh24, hf⟩ := ob_s hf
            refine ep_put (C := RX4) (T := TX4) (N := 32) (ci := 4) hx hb hts in_X4 tyX4 tyX4_ok nmX4 hown hK hw rfl (by decide) 17 (by decide) q1156 rfl rfl rfl eh24 dX4_next_132 (fun H locs hw => ?_)
            refine lv_aload_n hx hb dX4_next_135 rfl (lv_at hl 1 rfl) ?_
            refine lv_iconst (v := iI 0) hx hb dX4_next_136 rfl ?_
            obtain ⟨h25, eh25, hf⟩ := ob_s hf
            refine ep_put (C := RX4) (T := TX4) (N := 32) (ci := 4) hx hb hts in_X4 tyX4 tyX4_ok nmX4 hown hK hw rfl (by decide) 18 (by decide) q1157 rfl rfl rfl eh25 dX4_next_137 (fun H locs hw => ?_)
            obtain ⟨o26, ho26, hf⟩ := ob_s hf
            have hJ26 : ∀ (H : Heap) (locs : List Loc) (ls : Array Slot), ep_W G ep_cl o26 s H locs → lv_has ls 2 [(0, .ref a0)] → wX4_next p l e s m below meth c G h a0 res 0 0 H locs (F0 m 217 ls []) := by
              intro H locs ls hw hl
              refine lv_aload_n hx hb dX4_next_217 rfl (lv_at hl 0 rfl) ?_
              refine lv_aload_n hx hb dX4_next_218 rfl (lv_at hl 0 rfl) ?_
              obtain ⟨v42, ev42, hf⟩ := ob_s hf
              refine ep_get (C := RX4) (T := TX4) (N := 32) (ci := 4) hx hb hts in_X4 hown hK hw rfl 15 (by decide) q1154 (gI_f ev42) dX4_next_219 ?_
              refine lv_aload_n hx hb dX4_next_222 rfl (lv_at hl 0 rfl) ?_
              obtain ⟨v43, ev43, hf⟩ := ob_s hf
              refine ep_get (C := RX4) (T := TX4) (N := 32) (ci := 4) hx hb hts in_X4 hown hK hw rfl 16 (by decide) q1155 (gI_f ev43) dX4_next_223 ?_
              refine lv_isub hx hb dX4_next_226 ?_
              refine lv_iconst (v := iI 2) hx hb dX4_next_227 rfl ?_
              have hJ44 : wX4_next p l e s m below meth c G h a0 res 0 0 H locs (F0 m 236 ls [.int (if (iI 2) < (v42 - v43) then iI 0 else iI 1), .ref a0]) := by
                refine lv_iconst (v := iI 1) hx hb dX4_next_236 rfl ?_
                obtain ⟨o46, eo46, hf⟩ := ob_s hf
                refine ep_callv0 (va_runV (As := [.int (if (iI 2) < (v42 - v43) then iI 0 else iI 1), .int (iI 1)]) (rest := []) ⟨hx, hb, hml, hown, hts⟩ (metX4_needs l G o26 a0 (if (iI 2) < (v42 - v43) then iI 0 else iI 1) (iI 1) eo46) (cwV 2 hts (lw_V q1265 q1267 qs38 q89 q1268) rfl rfl rfl hdX4_needs ⟨Nat.le_of_ble_eq_true rfl, Nat.le_of_ble_eq_true rfl⟩) (ep_preV hK hZ hw rfl (ckX4_needs eo46)) rfl rfl hl.1 rfl (lv_room (Nat.le_of_ble_eq_true rfl)) dX4_next_237 ⟨Nat.le_of_ble_eq_true rfl, Nat.le_of_ble_eq_true rfl⟩) hw (fun H locs hw => ?_)
                refine lv_goto (tgt := 274) hx hb dX4_next_240 (by decide) ?_
                exact ep_retvW hx hb hr hlocks hw hf dX4_next_274
              refine lv_icmp_gt (tgt := 235) hx hb dX4_next_228 (by decide) (fun c45 => ?_) (fun c45 => ?_)
              · refine lv_iconst (v := iI 0) hx hb dX4_next_235 rfl ?_
                rw [if_pos c45] at hJ44
                exact hJ44
              · refine lv_iconst (v := iI 1) hx hb dX4_next_231 rfl ?_
                refine lv_goto (tgt := 236) hx hb dX4_next_232 (by decide) ?_
                rw [if_neg c45] at hJ44
                exact hJ44
            have hL26 : ∀ (fu : Nat) (h : Hp), fX4_next_L140 a0 fu h = some o26 → ∀ (H : Heap) (locs : List Loc) (ls : Array Slot), ep_W G ep_cl h s H locs → lv_has ls 2 [(0, .ref a0)] → wX4_next p l e s m below meth c G h a0 res 0 0 H locs (F0 m 140 ls []) := by
              intro fu
              induction fu with
              | zero => intro h ho26; cases ho26
              | succ fu ih26 =>
                intro h ho26 H locs ls hw hl
                rw [fX4_next_L140] at ho26
                refine lv_aload_n hx hb dX4_next_140 rfl (lv_at hl 0 rfl) ?_
                refine lv_aload_n hx hb dX4_next_141 rfl (lv_at hl 0 rfl) ?_
                obtain ⟨v27, ev27, ho26⟩ := ob_s ho26
                refine ep_get (C := RX4) (T := TX4) (N := 32) (ci := 4) hx hb hts in_X4 hown hK hw rfl 15 (by decide) q1154 (gI_f ev27) dX4_next_142 ?_
                obtain ⟨v28, ev28, ho26⟩ := ob_s ho26
                refine ep_calli0 (va_runV (As := [.int v27]) (rest := []) ⟨hx, hb, hml, hown, hts⟩ (metX4_byteAt l G h a0 v27 ev28) (cwV 1 hts (lw_V q1257 q1259 qs37 q89 q1260) rfl rfl rfl hdX4_byteAt ⟨Nat.le_of_ble_eq_true rfl, Nat.le_of_ble_eq_true rfl⟩) (ep_preV hK hZ hw rfl (ckX4_byteAt ev28)) rfl rfl hl.1 rfl (lv_room (Nat.le_of_ble_eq_true rfl)) dX4_next_145 ⟨Nat.le_of_ble_eq_true rfl, Nat.le_of_ble_eq_true rfl⟩) hw (fun H locs hw => ?_)
                refine lv_i2l (v := v28.toInt64) hx hb dX4_next_148 rfl ?_
                refine lv_ldc2 (v := (48 : Int64)) hx hb hown (hts _ q1263) dX4_next_149 ?_
                refine lv_ldc2 (v := (57 : Int64)) hx hb hown (hts _ q1264) dX4_next_152 ?_
                obtain ⟨v29, ev29, ho26⟩ := ob_s ho26
                refine ep_calli0 (va_runS (As := [.long v28.toInt64, .long (48 : Int64), .long (57 : Int64)]) (rest := []) ⟨hx, hb, hml, hown, hts⟩ (metX4_in l G h v28.toInt64 (48 : Int64) (57 : Int64) ev29) (va_cwS 3 hts (lw_S q1242 q1243 q89 q1244) rfl rfl rfl hsX4_in ⟨Nat.le_of_ble_eq_true rfl, Nat.le_of_ble_eq_true rfl⟩) (ep_preS hK hZ hw) rfl rfl hl.1 rfl (lv_room (Nat.le_of_ble_eq_true rfl)) dX4_next_155 ⟨Nat.le_of_ble_eq_true rfl, Nat.le_of_ble_eq_true rfl⟩) hw (fun H locs hw => ?_)
                refine lv_if_eq (tgt := 217) hx hb dX4_next_158 (by decide) (fun c30 => ?_) (fun c30 => ?_)
                · have ho26 := oi_t ho26 c30
                  obtain rfl := Option.some.inj ho26
                  exact hJ26 _ _ _ hw (lv_sub hl [0] rfl)
                · have ho26 := oi_f ho26 c30
                  refine lv_aload_n hx hb dX4_next_161 rfl (lv_at hl 0 rfl) ?_
                  refine lv_aload_n hx hb dX4_next_162 rfl (lv_at hl 0 rfl) ?_
                  obtain ⟨v31, ev31, ho26⟩ := ob_s ho26
                  refine ep_get (C := RX4) (T := TX4) (N := 32) (ci := 4) hx hb hts in_X4 hown hK hw rfl 15 (by decide) q1154 (gI_f ev31) dX4_next_163 ?_
                  refine lv_aload_n hx hb dX4_next_166 rfl (lv_at hl 0 rfl) ?_
                  obtain ⟨v32, ev32, ho26⟩ := ob_s ho26
                  refine ep_get (C := RX4) (T := TX4) (N := 32) (ci := 4) hx hb hts in_X4 hown hK hw rfl 16 (by decide) q1155 (gI_f ev32) dX4_next_167 ?_
                  refine lv_isub hx hb dX4_next_170 ?_
                  refine lv_iconst (v := iI 2) hx hb dX4_next_171 rfl ?_
                  obtain ⟨o33, ho33, ho26⟩ := ob_s ho26
                  have hJ33 : ∀ (H : Heap) (locs : List Loc) (ls : Array Slot), ep_W G ep_cl h s H locs → lv_has ls 2 [(0, .ref a0)] → wX4_next p l e s m below meth c G h a0 res 0 0 H locs (F0 m 201 ls [.int o33, .ref a0]) := by
                    intro H locs ls hw hl
                    obtain ⟨h39, eh39, ho26⟩ := ob_s ho26
                    refine ep_put (C := RX4) (T := TX4) (N := 32) (ci := 4) hx hb hts in_X4 tyX4 tyX4_ok nmX4 hown hK hw rfl (by decide) 18 (by decide) q1157 rfl rfl rfl eh39 dX4_next_201 (fun H locs hw => ?_)
                    refine lv_aload_n hx hb dX4_next_204 rfl (lv_at hl 0 rfl) ?_
                    refine lv_dup hx hb dX4_next_205 rfl ?_
                    obtain ⟨v40, ev40, ho26⟩ := ob_s ho26
                    refine ep_get (C := RX4) (T := TX4) (N := 32) (ci := 4) hx hb hts in_X4 hown hK hw rfl 15 (by decide) q1154 (gI_f ev40) dX4_next_206 ?_
                    refine lv_iconst (v := iI 1) hx hb dX4_next_209 rfl ?_
                    refine lv_iadd hx hb dX4_next_210 ?_
                    obtain ⟨h41, eh41, ho26⟩ := ob_s ho26
                    refine ep_put (C := RX4) (T := TX4) (N := 32) (ci := 4) hx hb hts in_X4 tyX4 tyX4_ok nmX4 hown hK hw rfl (by decide) 15 (by decide) q1154 rfl rfl rfl eh41 dX4_next_211 (fun H locs hw => ?_)
                    refine lv_goto (tgt := 140) hx hb dX4_next_214 (by decide) ?_
                    exact ih26 _ ho26 _ _ _ hw (lv_sub hl [0] rfl)
                  refine lv_icmp_ge (tgt := 197) hx hb dX4_next_172 (by decide) (fun c34 => ?_) (fun c34 => ?_)
                  · have ho33 := oi_t ho33 c34
                    refine lv_aload_n hx hb dX4_next_197 rfl (lv_at hl 0 rfl) ?_
                    obtain ⟨v35, ev35, ho33⟩ := ob_s ho33
                    refine ep_get (C := RX4) (T := TX4) (N := 32) (ci := 4) hx hb hts in_X4 hown hK hw rfl 18 (by decide) q1157 (gI_f ev35) dX4_next_198 ?_
                    obtain rfl := Option.some.inj ho33
                    exact hJ33 _ _ _ hw (lv_sub hl [0] rfl)
                  · have ho33 := oi_f ho33 c34
                    refine lv_bipush (v := iI 10) hx hb dX4_next_175 (by decide) ?_
                    refine lv_aload_n hx hb dX4_next_177 rfl (lv_at hl 0 rfl) ?_
                    obtain ⟨v36, ev36, ho33⟩ := ob_s ho33
                    refine ep_get (C := RX4) (T := TX4) (N := 32) (ci := 4) hx hb hts in_X4 hown hK hw rfl 18 (by decide) q1157 (gI_f ev36) dX4_next_178 ?_
                    refine lv_imul hx hb dX4_next_181 ?_
                    refine lv_aload_n hx hb dX4_next_182 rfl (lv_at hl 0 rfl) ?_
                    refine lv_aload_n hx hb dX4_next_183 rfl (lv_at hl 0 rfl) ?_
                    obtain ⟨v37, ev37, ho33⟩ := ob_s ho33
                    refine ep_get (C := RX4) (T := TX4) (N := 32) (ci := 4) hx hb hts in_X4 hown hK hw rfl 15 (by decide) q1154 (gI_f ev37) dX4_next_184 ?_
                    obtain ⟨v38, ev38, ho33⟩ := ob_s ho33
                    refine ep_calli0 (va_runV (As := [.int v37]) (rest := [.int ((iI 10) * v36), .ref a0]) ⟨hx, hb, hml, hown, hts⟩ (metX4_byteAt l G h a0 v37 ev38) (cwV 1 hts (lw_V q1257 q1259 qs37 q89 q1260) rfl rfl rfl hdX4_byteAt ⟨Nat.le_of_ble_eq_true rfl, Nat.le_of_ble_eq_true rfl⟩) (ep_preV hK hZ hw rfl (ckX4_byteAt ev38)) rfl rfl hl.1 rfl (lv_room (Nat.le_of_ble_eq_true rfl)) dX4_next_187 ⟨Nat.le_of_ble_eq_true rfl, Nat.le_of_ble_eq_true rfl⟩) hw (fun H locs hw => ?_)
                    refine lv_iadd hx hb dX4_next_190 ?_
                    refine lv_bipush (v := iI 48) hx hb dX4_next_191 (by decide) ?_
                    refine lv_isub hx hb dX4_next_193 ?_
                    refine lv_goto (tgt := 201) hx hb dX4_next_194 (by decide) ?_
                    obtain rfl := Option.some.inj ho33
                    exact hJ33 _ _ _ hw (lv_sub hl [0] rfl)
            exact hL26 FUEL _ ho26 _ _ _ hw (lv_sub hl [1] rfl)
        · have hf := oi_f hf c15
          refine lv_aload_n hx hb dX4_next_77 rfl (lv_at hl 1 rfl) ?_
          refine lv_iconst (v := iI 1) hx hb dX4_next_78 rfl ?_
          obtain ⟨h47, eh47, hf⟩ := ob_s hf
          refine ep_put (C := RX4) (T := TX4) (N := 32) (ci := 4) hx hb hts in_X4 tyX4 tyX4_ok nmX4 hown hK hw rfl (by decide) 17 (by decide) q1156 rfl rfl rfl eh47 dX4_next_79 (fun H locs hw => ?_)
          obtain ⟨o48, ho48, hf⟩ := ob_s hf
          have hJ48 : ∀ (H : Heap) (locs : List Loc) (ls : Array Slot), ep_W G ep_cl o48 s H locs → lv_has ls 2 [] → wX4_next p l e s m below meth c G h a0 res 0 0 H locs (F0 m 274 ls []) := by
            intro H locs ls hw hl
            exact ep_retvW hx hb hr hlocks hw hf dX4_next_274
          have hL48 : ∀ (fu : Nat) (h : Hp), fX4_next_L82 a0 fu h = some o48 → ∀ (H : Heap) (locs : List Loc) (ls : Array Slot), ep_W G ep_cl h s H locs → lv_has ls 2 [(0, .ref a0)] → wX4_next p l e s m below meth c G h a0 res 0 0 H locs (F0 m 82 ls []) := by
            intro fu
            induction fu with
            | zero => intro h ho48; cases ho48
            | succ fu ih48 =>
              intro h ho48 H locs ls hw hl
              rw [fX4_next_L82] at ho48
              refine lv_aload_n hx hb dX4_next_82 rfl (lv_at hl 0 rfl) ?_
              refine lv_aload_n hx hb dX4_next_83 rfl (lv_at hl 0 rfl) ?_
              obtain ⟨v49, ev49, ho48⟩ := ob_s ho48
              refine ep_get (C := RX4) (T := TX4) (N := 32) (ci := 4) hx hb hts in_X4 hown hK hw rfl 15 (by decide) q1154 (gI_f ev49) dX4_next_84 ?_
              obtain ⟨v50, ev50, ho48⟩ := ob_s ho48
              refine ep_calli0 (va_runV (As := [.int v49]) (rest := []) ⟨hx, hb, hml, hown, hts⟩ (metX4_byteAt l G h a0 v49 ev50) (cwV 1 hts (lw_V q1257 q1259 qs37 q89 q1260) rfl rfl rfl hdX4_byteAt ⟨Nat.le_of_ble_eq_true rfl, Nat.le_of_ble_eq_true rfl⟩) (ep_preV hK hZ hw rfl (ckX4_byteAt ev50)) rfl rfl hl.1 rfl (lv_room (Nat.le_of_ble_eq_true rfl)) dX4_next_87 ⟨Nat.le_of_ble_eq_true rfl, Nat.le_of_ble_eq_true rfl⟩) hw (fun H locs hw => ?_)
              refine lv_i2l (v := v50.toInt64) hx hb dX4_next_90 rfl ?_
              refine lv_ldc2 (v := (97 : Int64)) hx hb hown (hts _ q1261) dX4_next_91 ?_
              refine lv_ldc2 (v := (122 : Int64)) hx hb hown (hts _ q1262) dX4_next_94 ?_
              obtain ⟨v51, ev51, ho48⟩ := ob_s ho48
              refine ep_calli0 (va_runS (As := [.long v50.toInt64, .long (97 : Int64), .long (122 : Int64)]) (rest := []) ⟨hx, hb, hml, hown, hts⟩ (metX4_in l G h v50.toInt64 (97 : Int64) (122 : Int64) ev51) (va_cwS 3 hts (lw_S q1242 q1243 q89 q1244) rfl rfl rfl hsX4_in ⟨Nat.le_of_ble_eq_true rfl, Nat.le_of_ble_eq_true rfl⟩) (ep_preS hK hZ hw) rfl rfl hl.1 rfl (lv_room (Nat.le_of_ble_eq_true rfl)) dX4_next_97 ⟨Nat.le_of_ble_eq_true rfl, Nat.le_of_ble_eq_true rfl⟩) hw (fun H locs hw => ?_)
              refine lv_if_eq (tgt := 274) hx hb dX4_next_100 (by decide) (fun c52 => ?_) (fun c52 => ?_)
              · have ho48 := oi_t ho48 c52
                obtain rfl := Option.some.inj ho48
                exact hJ48 _ _ _ hw (lv_sub hl [] rfl)
              · have ho48 := oi_f ho48 c52
                refine lv_aload_n hx hb dX4_next_103 rfl (lv_at hl 0 rfl) ?_
                refine lv_dup hx hb dX4_next_104 rfl ?_
                obtain ⟨v53, ev53, ho48⟩ := ob_s ho48
                refine ep_get (C := RX4) (T := TX4) (N := 32) (ci := 4) hx hb hts in_X4 hown hK hw rfl 15 (by decide) q1154 (gI_f ev53) dX4_next_105 ?_
                refine lv_iconst (v := iI 1) hx hb dX4_next_108 rfl ?_
                refine lv_iadd hx hb dX4_next_109 ?_
                obtain ⟨h54, eh54, ho48⟩ := ob_s ho48
                refine ep_put (C := RX4) (T := TX4) (N := 32) (ci := 4) hx hb hts in_X4 tyX4 tyX4_ok nmX4 hown hK hw rfl (by decide) 15 (by decide) q1154 rfl rfl rfl eh54 dX4_next_110 (fun H locs hw => ?_)
                refine lv_goto (tgt := 82) hx hb dX4_next_113 (by decide) ?_
                exact ih48 _ ho48 _ _ _ hw (lv_sub hl [0] rfl)
          exact hL48 FUEL _ ho48 _ _ _ hw (lv_sub hl [1] rfl)
      · have hf := oi_f hf c13
        refine lv_aload_n hx hb dX4_next_55 rfl (lv_at hl 1 rfl) ?_
        refine lv_iconst (v := iI 0) hx hb dX4_next_56 rfl ?_
        obtain ⟨h55, eh55, hf⟩ := ob_s hf
        refine ep_put (C := RX4) (T := TX4) (N := 32) (ci := 4) hx hb hts in_X4 tyX4 tyX4_ok nmX4 hown hK hw rfl (by decide) 17 (by decide) q1156 rfl rfl rfl eh55 dX4_next_57 (fun H locs hw => ?_)
        refine lv_goto (tgt := 274) hx hb dX4_next_60 (by decide) ?_
        exact ep_retvW hx hb hr hlocks hw hf dX4_next_274
    have hL3 : ∀ (fu : Nat) (h : Hp), fX4_next_L8 a0 fu h = some o3 → ∀ (H : Heap) (locs : List Loc) (ls : Array Slot), ep_W G ep_cl h s H locs → lv_has ls 2 [(0, .ref a0)] → wX4_next p l e s m below meth c G h a0 res 0 0 H locs (F0 m 8 ls []) := by
      intro fu
      induction fu with
      | zero => intro h ho3; cases ho3
      | succ fu ih3 =>
        intro h ho3 H locs ls hw hl
        rw [fX4_next_L8] at ho3
        refine lv_aload_n hx hb dX4_next_8 rfl (lv_at hl 0 rfl) ?_
        refine lv_aload_n hx hb dX4_next_9 rfl (lv_at hl 0 rfl) ?_
        obtain ⟨v4, ev4, ho3⟩ := ob_s ho3
        refine ep_get (C := RX4) (T := TX4) (N := 32) (ci := 4) hx hb hts in_X4 hown hK hw rfl 15 (by decide) q1154 (gI_f ev4) dX4_next_10 ?_
        obtain ⟨v5, ev5, ho3⟩ := ob_s ho3
        refine ep_calli0 (va_runV (As := [.int v4]) (rest := []) ⟨hx, hb, hml, hown, hts⟩ (metX4_byteAt l G h a0 v4 ev5) (cwV 1 hts (lw_V q1257 q1259 qs37 q89 q1260) rfl rfl rfl hdX4_byteAt ⟨Nat.le_of_ble_eq_true rfl, Nat.le_of_ble_eq_true rfl⟩) (ep_preV hK hZ hw rfl (ckX4_byteAt ev5)) rfl rfl hl.1 rfl (lv_room (Nat.le_of_ble_eq_true rfl)) dX4_next_13 ⟨Nat.le_of_ble_eq_true rfl, Nat.le_of_ble_eq_true rfl⟩) hw (fun H locs hw => ?_)
        refine lv_bipush (v := iI 32) hx hb dX4_next_16 (by decide) ?_
        refine lv_icmp_ne (tgt := 34) hx hb dX4_next_18 (by decide) (fun c6 => ?_) (fun c6 => ?_)
        · have ho3 := oi_f ho3 c6
          obtain rfl := Option.some.inj ho3
          exact hJ3 _ _ _ hw (lv_sub hl [0] rfl)
        · have ho3 := oi_t ho3 c6
          refine lv_aload_n hx hb dX4_next_21 rfl (lv_at hl 0 rfl) ?_
          refine lv_dup hx hb dX4_next_22 rfl ?_
          obtain ⟨v7, ev7, ho3⟩ := ob_s ho3
          refine ep_get (C := RX4) (T := TX4) (N := 32) (ci := 4) hx hb hts in_X4 hown hK hw rfl 15 (by decide) q1154 (gI_f ev7) dX4_next_23 ?_
          refine lv_iconst (v := iI 1) hx hb dX4_next_26 rfl ?_
          refine lv_iadd hx hb dX4_next_27 ?_
          obtain ⟨h8, eh8, ho3⟩ := ob_s ho3
          refine ep_put (C := RX4) (T := TX4) (N := 32) (ci := 4) hx hb hts in_X4 tyX4 tyX4_ok nmX4 hown hK hw rfl (by decide) 15 (by decide) q1154 rfl rfl rfl eh8 dX4_next_28 (fun H locs hw => ?_)
          refine lv_goto (tgt := 8) hx hb dX4_next_31 (by decide) ?_
          exact ih3 _ ho3 _ _ _ hw (lv_sub hl [0] rfl)
    exact hL3 FUEL _ ho3 _ _ _ hw (lv_sub hl [0] rfl)
  · have hf := oi_f hf c2
    exact ep_retvW hx hb hr hlocks hw hf dX4_next_7
theorem hdX4_is : yX4_is.cls = RX4 ∧ yX4_is.cls ≠ "java/lang/invoke/MethodHandle" ∧ yX4_is.cls ≠ "java/lang/invoke/VarHandle" ∧ (parseMethodDescriptor yX4_is.desc).map (fun d => d.parameters.length) = some 4 := by decide +kernel
theorem ckX4_is {h : Hp} {a0 : Nat} {x1 : Int32} {x2 : Int32} {x3 : Int32} {x4 : Int32} {res : Int32} (hf : fX4_is h a0 x1 x2 x3 x4 = some res) : ep_cls h a0 = some 4 := by
  unfold fX4_is at hf
  exact (oi_c hf).1
abbrev wX4_is (p : Program) (l : Launch) (e : Env) (s : State) (m : MethodId) (below : List Frame) (meth : Method) (c : Code) (G : EG) (h : Hp) (a0 : Nat) (x1 : Int32) (x2 : Int32) (x3 : Int32) (x4 : Int32) (res : Int32) (k9 n9 : Nat) (H : Heap) (locs : List Loc) (g : JFrame) : Prop := W p l e (headSpec (ws_ yX4_is cX4_is 5 (some .boolean)) ({ frames := 1, cells := 0, slots := 0, locals := 21 } : Room)).room s m ([.ref a0, .int x1, .int x2, .int x3, .int x4] : List Value).toArray below meth c H locs k9 n9 (MQ below (ep_Qi G ep_cl h res) ([.ref a0, .int x1, .int x2, .int x3, .int x4] : List Value).toArray s 0 0 (ep_A G)) g
set_option maxHeartbeats 4000000 in
theorem metX4_is (l : Launch) (G : EG) (h : Hp) (a0 : Nat) (x1 : Int32) (x2 : Int32) (x3 : Int32) (x4 : Int32) {res : Int32} (hf : fX4_is h a0 x1 x2 x3 x4 = some res) : Met l yX4_is (ws_ yX4_is cX4_is 5 (some .boolean)) ({ frames := 1, cells := 0, slots := 0, locals := 21 } : Room) (ep_Pc G ep_cl h [.ref a0, .int x1, .int x2, .int x3, .int x4]) (ep_Qi G ep_cl h res) 0 0 (ep_A G) := by
  refine Met.ofW (cc := cX4_is) (maxL := 5) (ret := (some .boolean)) (by decide) rfl ?_
  intro p e s m args below meth c s₁ B hml hv
  obtain ⟨rfl, hR, hK, hZ⟩ := hv
  have hx := B.exec
  have hb := B.bytes
  have hr := B.returns
  have hlocks := B.notSynchronized
  have hts := atoms_spec (ws := (ws_ yX4_is cX4_is 5 (some .boolean))) B.pre
  have hts : ∀ w ∈ lw_all, w.before _ s = true := fun w h => hts w (List.mem_cons_of_mem _ h)
  have hown : s.vm.findClass RX4 = some m.cls := findClass_of_methodNamed B.named
  have hw : ep_W G ep_cl h s s.heap [] := ⟨hR, va_S.rf⟩
  have hl := lv_entry ([.ref a0, .int x1, .int x2, .int x3, .int x4]) (n := 5) (Nat.le_of_ble_eq_true rfl)
  rw [lg_entry_eq]
  generalize (lg_sl ([.ref a0, .int x1, .int x2, .int x3, .int x4]) ++ List.replicate (5 - (lg_sl ([.ref a0, .int x1, .int x2, .int x3, .int x4])).length) Slot.unset).toArray = ls at hl ⊢
  have hl : lv_has ls 5 [(0, .ref a0), (1, .int x1), (2, .int x2), (3, .int x3), (4, .int x4)] := hl
  unfold fX4_is at hf
  have hf := (oi_c hf).2
  show wX4_is p l e s m below meth c G h a0 x1 x2 x3 x4 res 0 0 s.heap ([]) (F0 m 0 ls [])
  refine lv_aload_n hx hb dX4_is_0 rfl (lv_at hl 0 rfl) ?_
  obtain ⟨v1, ev1, hf⟩ := ob_s hf
  refine ep_get (C := RX4) (T := TX4) (N := 32) (ci := 4) hx hb hts in_X4 hown hK hw rfl 15 (by decide) q1154 (gI_f ev1) dX4_is_1 ?_
  refine lv_aload_n hx hb dX4_is_4 rfl (lv_at hl 0 rfl) ?_
  obtain ⟨v2, ev2, hf⟩ := ob_s hf
  refine ep_get (C := RX4) (T := TX4) (N := 32) (ci := 4) hx hb hts in_X4 hown hK hw rfl 16 (by decide) q1155 (gI_f ev2) dX4_is_5 ?_
  refine lv_isub hx hb dX4_is_8 ?_
  refine lv_iload_n hx hb dX4_is_9 rfl (lv_at hl 1 rfl) ?_
  refine lv_icmp_ne (tgt := 58) hx hb dX4_is_10 (by decide) (fun c3 => ?_) (fun c3 => ?_)
  · have hf := oi_f hf c3
    refine lv_iconst (v := iI 0) hx hb dX4_is_58 rfl ?_
    exact ep_retzR hx hb hr rfl hlocks hw hf dX4_is_59
  · have hf := oi_t hf c3
    refine lv_aload_n hx hb dX4_is_13 rfl (lv_at hl 0 rfl) ?_
    refine lv_aload_n hx hb dX4_is_14 rfl (lv_at hl 0 rfl) ?_
    obtain ⟨v4, ev4, hf⟩ := ob_s hf
    refine ep_get (C := RX4) (T := TX4) (N := 32) (ci := 4) hx hb hts in_X4 hown hK hw rfl 16 (by decide) q1155 (gI_f ev4) dX4_is_15 ?_
    obtain ⟨v5, ev5, hf⟩ := ob_s hf
    refine ep_calli0 (va_runV (As := [.int v4]) (rest := []) ⟨hx, hb, hml, hown, hts⟩ (metX4_byteAt l G h a0 v4 ev5) (cwV 1 hts (lw_V q1257 q1259 qs37 q89 q1260) rfl rfl rfl hdX4_byteAt ⟨Nat.le_of_ble_eq_true rfl, Nat.le_of_ble_eq_true rfl⟩) (ep_preV hK hZ hw rfl (ckX4_byteAt ev5)) rfl rfl hl.1 rfl (lv_room (Nat.le_of_ble_eq_true rfl)) dX4_is_18 ⟨Nat.le_of_ble_eq_true rfl, Nat.le_of_ble_eq_true rfl⟩) hw (fun H locs hw => ?_)
    refine lv_iload_n hx hb dX4_is_21 rfl (lv_at hl 2 rfl) ?_
    refine lv_icmp_ne (tgt := 58) hx hb dX4_is_22 (by decide) (fun c6 => ?_) (fun c6 => ?_)
    · have hf := oi_f hf c6
      refine lv_iconst (v := iI 0) hx hb dX4_is_58 rfl ?_
      exact ep_retzR hx hb hr rfl hlocks hw hf dX4_is_59
    · have hf := oi_t hf c6
      refine lv_aload_n hx hb dX4_is_25 rfl (lv_at hl 0 rfl) ?_
      refine lv_aload_n hx hb dX4_is_26 rfl (lv_at hl 0 rfl) ?_
      obtain ⟨v7, ev7, hf⟩ := ob_s hf
      refine ep_get (C := RX4) (T := TX4) (N := 32) (ci := 4) hx hb hts in_X4 hown hK hw rfl 16 (by decide) q1155 (gI_f ev7) dX4_is_27 ?_
      refine lv_iconst (v := iI 1) hx hb dX4_is_30 rfl ?_
      refine lv_iadd hx hb dX4_is_31 ?_
      obtain ⟨v8, ev8, hf⟩ := ob_s hf
      refine ep_calli0 (va_runV (As := [.int (v7 + (iI 1))]) (rest := []) ⟨hx, hb, hml, hown, hts⟩ (metX4_byteAt l G h a0 (v7 + (iI 1)) ev8) (cwV 1 hts (lw_V q1257 q1259 qs37 q89 q1260) rfl rfl rfl hdX4_byteAt ⟨Nat.le_of_ble_eq_true rfl, Nat.le_of_ble_eq_true rfl⟩) (ep_preV hK hZ hw rfl (ckX4_byteAt ev8)) rfl rfl hl.1 rfl (lv_room (Nat.le_of_ble_eq_true rfl)) dX4_is_32 ⟨Nat.le_of_ble_eq_true rfl, Nat.le_of_ble_eq_true rfl⟩) hw (fun H locs hw => ?_)
      refine lv_iload_n hx hb dX4_is_35 rfl (lv_at hl 3 rfl) ?_
      refine lv_icmp_ne (tgt := 58) hx hb dX4_is_36 (by decide) (fun c9 => ?_) (fun c9 => ?_)
      · have hf := oi_f hf c9
        refine lv_iconst (v := iI 0) hx hb dX4_is_58 rfl ?_
        exact ep_retzR hx hb hr rfl hlocks hw hf dX4_is_59
      · have hf := oi_t hf c9
        refine lv_aload_n hx hb dX4_is_39 rfl (lv_at hl 0 rfl) ?_
        refine lv_aload_n hx hb dX4_is_40 rfl (lv_at hl 0 rfl) ?_
        obtain ⟨v10, ev10, hf⟩ := ob_s hf
        refine ep_get (C := RX4) (T := TX4) (N := 32) (ci := 4) hx hb hts in_X4 hown hK hw rfl 16 (by decide) q1155 (gI_f ev10) dX4_is_41 ?_
        refine lv_iconst (v := iI 2) hx hb dX4_is_44 rfl ?_
        refine lv_iadd hx hb dX4_is_45 ?_
        obtain ⟨v11, ev11, hf⟩ := ob_s hf
        refine ep_calli0 (va_runV (As := [.int (v10 + (iI 2))]) (rest := []) ⟨hx, hb, hml, hown, hts⟩ (metX4_byteAt l G h a0 (v10 + (iI 2)) ev11) (cwV 1 hts (lw_V q1257 q1259 qs37 q89 q1260) rfl rfl rfl hdX4_byteAt ⟨Nat.le_of_ble_eq_true rfl, Nat.le_of_ble_eq_true rfl⟩) (ep_preV hK hZ hw rfl (ckX4_byteAt ev11)) rfl rfl hl.1 rfl (lv_room (Nat.le_of_ble_eq_true rfl)) dX4_is_46 ⟨Nat.le_of_ble_eq_true rfl, Nat.le_of_ble_eq_true rfl⟩) hw (fun H locs hw => ?_)
        refine lv_iload hx hb dX4_is_49 (lv_at hl 4 rfl) ?_
        refine lv_icmp_ne (tgt := 58) hx hb dX4_is_51 (by decide) (fun c12 => ?_) (fun c12 => ?_)
        · have hf := oi_f hf c12
          refine lv_iconst (v := iI 0) hx hb dX4_is_58 rfl ?_
          exact ep_retzR hx hb hr rfl hlocks hw hf dX4_is_59
        · have hf := oi_t hf c12
          refine lv_iconst (v := iI 1) hx hb dX4_is_54 rfl ?_
          refine lv_goto (tgt := 59) hx hb dX4_is_55 (by decide) ?_
          exact ep_retzR hx hb hr rfl hlocks hw hf dX4_is_59
theorem hdX4_ends : yX4_ends.cls = RX4 ∧ yX4_ends.cls ≠ "java/lang/invoke/MethodHandle" ∧ yX4_ends.cls ≠ "java/lang/invoke/VarHandle" ∧ (parseMethodDescriptor yX4_ends.desc).map (fun d => d.parameters.length) = some 2 := by decide +kernel
theorem ckX4_ends {h : Hp} {a0 : Nat} {x1 : Int32} {x2 : Int32} {res : Int32} (hf : fX4_ends h a0 x1 x2 = some res) : ep_cls h a0 = some 4 := by
  unfold fX4_ends at hf
  exact (oi_c hf).1
abbrev wX4_ends (p : Program) (l : Launch) (e : Env) (s : State) (m : MethodId) (below : List Frame) (meth : Method) (c : Code) (G : EG) (h : Hp) (a0 : Nat) (x1 : Int32) (x2 : Int32) (res : Int32) (k9 n9 : Nat) (H : Heap) (locs : List Loc) (g : JFrame) : Prop := W p l e (headSpec (ws_ yX4_ends cX4_ends 3 (some .boolean)) ({ frames := 1, cells := 0, slots := 0, locals := 21 } : Room)).room s m ([.ref a0, .int x1, .int x2] : List Value).toArray below meth c H locs k9 n9 (MQ below (ep_Qi G ep_cl h res) ([.ref a0, .int x1, .int x2] : List Value).toArray s 0 0 (ep_A G)) g
set_option maxHeartbeats 4000000 in
theorem metX4_ends (l : Launch) (G : EG) (h : Hp) (a0 : Nat) (x1 : Int32) (x2 : Int32) {res : Int32} (hf : fX4_ends h a0 x1 x2 = some res) : Met l yX4_ends (ws_ yX4_ends cX4_ends 3 (some .boolean)) ({ frames := 1, cells := 0, slots := 0, locals := 21 } : Room) (ep_Pc G ep_cl h [.ref a0, .int x1, .int x2]) (ep_Qi G ep_cl h res) 0 0 (ep_A G) := by
  refine Met.ofW (cc := cX4_ends) (maxL := 3) (ret := (some .boolean)) (by decide) rfl ?_
  intro p e s m args below meth c s₁ B hml hv
  obtain ⟨rfl, hR, hK, hZ⟩ := hv
  have hx := B.exec
  have hb := B.bytes
  have hr := B.returns
  have hlocks := B.notSynchronized
  have hts := atoms_spec (ws := (ws_ yX4_ends cX4_ends 3 (some .boolean))) B.pre
  have hts : ∀ w ∈ lw_all, w.before _ s = true := fun w h => hts w (List.mem_cons_of_mem _ h)
  have hown : s.vm.findClass RX4 = some m.cls := findClass_of_methodNamed B.named
  have hw : ep_W G ep_cl h s s.heap [] := ⟨hR, va_S.rf⟩
  have hl := lv_entry ([.ref a0, .int x1, .int x2]) (n := 3) (Nat.le_of_ble_eq_true rfl)
  rw [lg_entry_eq]
  generalize (lg_sl ([.ref a0, .int x1, .int x2]) ++ List.replicate (3 - (lg_sl ([.ref a0, .int x1, .int x2])).length) Slot.unset).toArray = ls at hl ⊢
  have hl : lv_has ls 3 [(0, .ref a0), (1, .int x1), (2, .int x2)] := hl
  unfold fX4_ends at hf
  have hf := (oi_c hf).2
  show wX4_ends p l e s m below meth c G h a0 x1 x2 res 0 0 s.heap ([]) (F0 m 0 ls [])
  refine lv_aload_n hx hb dX4_ends_0 rfl (lv_at hl 0 rfl) ?_
  refine lv_aload_n hx hb dX4_ends_1 rfl (lv_at hl 0 rfl) ?_
  obtain ⟨v1, ev1, hf⟩ := ob_s hf
  refine ep_get (C := RX4) (T := TX4) (N := 32) (ci := 4) hx hb hts in_X4 hown hK hw rfl 16 (by decide) q1155 (gI_f ev1) dX4_ends_2 ?_
  refine lv_iconst (v := iI 3) hx hb dX4_ends_5 rfl ?_
  refine lv_iadd hx hb dX4_ends_6 ?_
  obtain ⟨v2, ev2, hf⟩ := ob_s hf
  refine ep_calli0 (va_runV (As := [.int (v1 + (iI 3))]) (rest := []) ⟨hx, hb, hml, hown, hts⟩ (metX4_byteAt l G h a0 (v1 + (iI 3)) ev2) (cwV 1 hts (lw_V q1257 q1259 qs37 q89 q1260) rfl rfl rfl hdX4_byteAt ⟨Nat.le_of_ble_eq_true rfl, Nat.le_of_ble_eq_true rfl⟩) (ep_preV hK hZ hw rfl (ckX4_byteAt ev2)) rfl rfl hl.1 rfl (lv_room (Nat.le_of_ble_eq_true rfl)) dX4_ends_7 ⟨Nat.le_of_ble_eq_true rfl, Nat.le_of_ble_eq_true rfl⟩) hw (fun H locs hw => ?_)
  refine lv_iload_n hx hb dX4_ends_10 rfl (lv_at hl 1 rfl) ?_
  refine lv_icmp_ne (tgt := 36) hx hb dX4_ends_11 (by decide) (fun c3 => ?_) (fun c3 => ?_)
  · have hf := oi_f hf c3
    refine lv_iconst (v := iI 0) hx hb dX4_ends_36 rfl ?_
    exact ep_retzR hx hb hr rfl hlocks hw hf dX4_ends_37
  · have hf := oi_t hf c3
    refine lv_iload_n hx hb dX4_ends_14 rfl (lv_at hl 2 rfl) ?_
    refine lv_if_eq (tgt := 32) hx hb dX4_ends_15 (by decide) (fun c4 => ?_) (fun c4 => ?_)
    · have hf := oi_t hf c4
      refine lv_iconst (v := iI 1) hx hb dX4_ends_32 rfl ?_
      refine lv_goto (tgt := 37) hx hb dX4_ends_33 (by decide) ?_
      exact ep_retzR hx hb hr rfl hlocks hw hf dX4_ends_37
    · have hf := oi_f hf c4
      refine lv_aload_n hx hb dX4_ends_18 rfl (lv_at hl 0 rfl) ?_
      refine lv_aload_n hx hb dX4_ends_19 rfl (lv_at hl 0 rfl) ?_
      obtain ⟨v5, ev5, hf⟩ := ob_s hf
      refine ep_get (C := RX4) (T := TX4) (N := 32) (ci := 4) hx hb hts in_X4 hown hK hw rfl 16 (by decide) q1155 (gI_f ev5) dX4_ends_20 ?_
      refine lv_iconst (v := iI 4) hx hb dX4_ends_23 rfl ?_
      refine lv_iadd hx hb dX4_ends_24 ?_
      obtain ⟨v6, ev6, hf⟩ := ob_s hf
      refine ep_calli0 (va_runV (As := [.int (v5 + (iI 4))]) (rest := []) ⟨hx, hb, hml, hown, hts⟩ (metX4_byteAt l G h a0 (v5 + (iI 4)) ev6) (cwV 1 hts (lw_V q1257 q1259 qs37 q89 q1260) rfl rfl rfl hdX4_byteAt ⟨Nat.le_of_ble_eq_true rfl, Nat.le_of_ble_eq_true rfl⟩) (ep_preV hK hZ hw rfl (ckX4_byteAt ev6)) rfl rfl hl.1 rfl (lv_room (Nat.le_of_ble_eq_true rfl)) dX4_ends_25 ⟨Nat.le_of_ble_eq_true rfl, Nat.le_of_ble_eq_true rfl⟩) hw (fun H locs hw => ?_)
      refine lv_iload_n hx hb dX4_ends_28 rfl (lv_at hl 2 rfl) ?_
      refine lv_icmp_ne (tgt := 36) hx hb dX4_ends_29 (by decide) (fun c7 => ?_) (fun c7 => ?_)
      · have hf := oi_f hf c7
        refine lv_iconst (v := iI 0) hx hb dX4_ends_36 rfl ?_
        exact ep_retzR hx hb hr rfl hlocks hw hf dX4_ends_37
      · have hf := oi_t hf c7
        refine lv_iconst (v := iI 1) hx hb dX4_ends_32 rfl ?_
        refine lv_goto (tgt := 37) hx hb dX4_ends_33 (by decide) ?_
        exact ep_retzR hx hb hr rfl hlocks hw hf dX4_ends_37
theorem hdX4_lineNow : yX4_lineNow.cls = RX4 ∧ yX4_lineNow.cls ≠ "java/lang/invoke/MethodHandle" ∧ yX4_lineNow.cls ≠ "java/lang/invoke/VarHandle" ∧ (parseMethodDescriptor yX4_lineNow.desc).map (fun d => d.parameters.length) = some 0 := by decide +kernel
theorem ckX4_lineNow {h : Hp} {a0 : Nat} {res : Int32} (hf : fX4_lineNow h a0 = some res) : ep_cls h a0 = some 4 := by
  unfold fX4_lineNow at hf
  exact (oi_c hf).1
abbrev wX4_lineNow (p : Program) (l : Launch) (e : Env) (s : State) (m : MethodId) (below : List Frame) (meth : Method) (c : Code) (G : EG) (h : Hp) (a0 : Nat) (res : Int32) (k9 n9 : Nat) (H : Heap) (locs : List Loc) (g : JFrame) : Prop := W p l e (headSpec (ws_ yX4_lineNow cX4_lineNow 1 (some .int)) ({ frames := 2, cells := 0, slots := 0, locals := 45 } : Room)).room s m ([.ref a0] : List Value).toArray below meth c H locs k9 n9 (MQ below (ep_Qi G ep_cl h res) ([.ref a0] : List Value).toArray s 0 0 (ep_A G)) g
set_option maxHeartbeats 4000000 in
theorem metX4_lineNow (l : Launch) (G : EG) (h : Hp) (a0 : Nat) {res : Int32} (hf : fX4_lineNow h a0 = some res) : Met l yX4_lineNow (ws_ yX4_lineNow cX4_lineNow 1 (some .int)) ({ frames := 2, cells := 0, slots := 0, locals := 45 } : Room) (ep_Pc G ep_cl h [.ref a0]) (ep_Qi G ep_cl h res) 0 0 (ep_A G) := by
  refine Met.ofW (cc := cX4_lineNow) (maxL := 1) (ret := (some .int)) (by decide) rfl ?_
  intro p e s m args below meth c s₁ B hml hv
  obtain ⟨rfl, hR, hK, hZ⟩ := hv
  have hx := B.exec
  have hb := B.bytes
  have hr := B.returns
  have hlocks := B.notSynchronized
  have hts := atoms_spec (ws := (ws_ yX4_lineNow cX4_lineNow 1 (some .int))) B.pre
  have hts : ∀ w ∈ lw_all, w.before _ s = true := fun w h => hts w (List.mem_cons_of_mem _ h)
  have hown : s.vm.findClass RX4 = some m.cls := findClass_of_methodNamed B.named
  have hw : ep_W G ep_cl h s s.heap [] := ⟨hR, va_S.rf⟩
  have hl := lv_entry ([.ref a0]) (n := 1) (Nat.le_of_ble_eq_true rfl)
  rw [lg_entry_eq]
  generalize (lg_sl ([.ref a0]) ++ List.replicate (1 - (lg_sl ([.ref a0])).length) Slot.unset).toArray = ls at hl ⊢
  have hl : lv_has ls 1 [(0, .ref a0)] := hl
  unfold fX4_lineNow at hf
  have hf := (oi_c hf).2
  show wX4_lineNow p l e s m below meth c G h a0 res 0 0 s.heap ([]) (F0 m 0 ls [])
  refine lv_aload_n hx hb dX4_lineNow_0 rfl (lv_at hl 0 rfl) ?_
  refine lv_iconst (v := iI 5) hx hb dX4_lineNow_1 rfl ?_
  refine lv_bipush (v := iI 112) hx hb dX4_lineNow_2 (by decide) ?_
  refine lv_bipush (v := iI 108) hx hb dX4_lineNow_4 (by decide) ?_
  refine lv_bipush (v := iI 97) hx hb dX4_lineNow_6 (by decide) ?_
  obtain ⟨v1, ev1, hf⟩ := ob_s hf
  refine ep_calli0 (va_runV (As := [.int (iI 5), .int (iI 112), .int (iI 108), .int (iI 97)]) (rest := []) ⟨hx, hb, hml, hown, hts⟩ (metX4_is l G h a0 (iI 5) (iI 112) (iI 108) (iI 97) ev1) (cwV 4 hts (lw_V q1277 q1279 qs41 q89 q1280) rfl rfl rfl hdX4_is ⟨Nat.le_of_ble_eq_true rfl, Nat.le_of_ble_eq_true rfl⟩) (ep_preV hK hZ hw rfl (ckX4_is ev1)) rfl rfl hl.1 rfl (lv_room (Nat.le_of_ble_eq_true rfl)) dX4_lineNow_8 ⟨Nat.le_of_ble_eq_true rfl, Nat.le_of_ble_eq_true rfl⟩) hw (fun H locs hw => ?_)
  obtain ⟨ox2, ho2, hk2⟩ := orL_s hf
  have hT2 : ∀ r, ox2 = .inl r → some r = some res := fun r eo => (by have e := orL_1 hk2 eo; exact e)
  have hJ2 : ∀ o2, ox2 = .inr o2 → ∀ (H : Heap) (locs : List Loc) (ls : Array Slot), ep_W G ep_cl h s H locs → lv_has ls 1 [(0, .ref a0)] → wX4_lineNow p l e s m below meth c G h a0 res 0 0 H locs (F0 m 27 ls []) := by
    intro o2 eo H locs ls hw hl
    have hf := orL_2 hk2 eo
    refine lv_aload_n hx hb dX4_lineNow_27 rfl (lv_at hl 0 rfl) ?_
    refine lv_iconst (v := iI 4) hx hb dX4_lineNow_28 rfl ?_
    refine lv_bipush (v := iI 116) hx hb dX4_lineNow_29 (by decide) ?_
    refine lv_bipush (v := iI 119) hx hb dX4_lineNow_31 (by decide) ?_
    refine lv_bipush (v := iI 105) hx hb dX4_lineNow_33 (by decide) ?_
    obtain ⟨v6, ev6, hf⟩ := ob_s hf
    refine ep_calli0 (va_runV (As := [.int (iI 4), .int (iI 116), .int (iI 119), .int (iI 105)]) (rest := []) ⟨hx, hb, hml, hown, hts⟩ (metX4_is l G h a0 (iI 4) (iI 116) (iI 119) (iI 105) ev6) (cwV 4 hts (lw_V q1277 q1279 qs41 q89 q1280) rfl rfl rfl hdX4_is ⟨Nat.le_of_ble_eq_true rfl, Nat.le_of_ble_eq_true rfl⟩) (ep_preV hK hZ hw rfl (ckX4_is ev6)) rfl rfl hl.1 rfl (lv_room (Nat.le_of_ble_eq_true rfl)) dX4_lineNow_35 ⟨Nat.le_of_ble_eq_true rfl, Nat.le_of_ble_eq_true rfl⟩) hw (fun H locs hw => ?_)
    obtain ⟨ox7, ho7, hk7⟩ := orL_s hf
    have hT7 : ∀ r, ox7 = .inl r → some r = some res := fun r eo => (by have e := orL_1 hk7 eo; exact e)
    have hJ7 : ∀ o7, ox7 = .inr o7 → ∀ (H : Heap) (locs : List Loc) (ls : Array Slot), ep_W G ep_cl h s H locs → lv_has ls 1 [(0, .ref a0)] → wX4_lineNow p l e s m below meth c G h a0 res 0 0 H locs (F0 m 53 ls []) := by
      intro o7 eo H locs ls hw hl
      have hf := orL_2 hk7 eo
      refine lv_aload_n hx hb dX4_lineNow_53 rfl (lv_at hl 0 rfl) ?_
      refine lv_iconst (v := iI 4) hx hb dX4_lineNow_54 rfl ?_
      refine lv_bipush (v := iI 114) hx hb dX4_lineNow_55 (by decide) ?_
      refine lv_bipush (v := iI 117) hx hb dX4_lineNow_57 (by decide) ?_
      refine lv_bipush (v := iI 110) hx hb dX4_lineNow_59 (by decide) ?_
      obtain ⟨v11, ev11, hf⟩ := ob_s hf
      refine ep_calli0 (va_runV (As := [.int (iI 4), .int (iI 114), .int (iI 117), .int (iI 110)]) (rest := []) ⟨hx, hb, hml, hown, hts⟩ (metX4_is l G h a0 (iI 4) (iI 114) (iI 117) (iI 110) ev11) (cwV 4 hts (lw_V q1277 q1279 qs41 q89 q1280) rfl rfl rfl hdX4_is ⟨Nat.le_of_ble_eq_true rfl, Nat.le_of_ble_eq_true rfl⟩) (ep_preV hK hZ hw rfl (ckX4_is ev11)) rfl rfl hl.1 rfl (lv_room (Nat.le_of_ble_eq_true rfl)) dX4_lineNow_61 ⟨Nat.le_of_ble_eq_true rfl, Nat.le_of_ble_eq_true rfl⟩) hw (fun H locs hw => ?_)
      obtain ⟨ox12, ho12, hk12⟩ := orL_s hf
      have hT12 : ∀ r, ox12 = .inl r → some r = some res := fun r eo => (by have e := orL_1 hk12 eo; exact e)
      have hJ12 : ∀ o12, ox12 = .inr o12 → ∀ (H : Heap) (locs : List Loc) (ls : Array Slot), ep_W G ep_cl h s H locs → lv_has ls 1 [(0, .ref a0)] → wX4_lineNow p l e s m below meth c G h a0 res 0 0 H locs (F0 m 79 ls []) := by
        intro o12 eo H locs ls hw hl
        have hf := orL_2 hk12 eo
        refine lv_aload_n hx hb dX4_lineNow_79 rfl (lv_at hl 0 rfl) ?_
        refine lv_iconst (v := iI 4) hx hb dX4_lineNow_80 rfl ?_
        refine lv_bipush (v := iI 119) hx hb dX4_lineNow_81 (by decide) ?_
        refine lv_bipush (v := iI 105) hx hb dX4_lineNow_83 (by decide) ?_
        refine lv_bipush (v := iI 108) hx hb dX4_lineNow_85 (by decide) ?_
        obtain ⟨v16, ev16, hf⟩ := ob_s hf
        refine ep_calli0 (va_runV (As := [.int (iI 4), .int (iI 119), .int (iI 105), .int (iI 108)]) (rest := []) ⟨hx, hb, hml, hown, hts⟩ (metX4_is l G h a0 (iI 4) (iI 119) (iI 105) (iI 108) ev16) (cwV 4 hts (lw_V q1277 q1279 qs41 q89 q1280) rfl rfl rfl hdX4_is ⟨Nat.le_of_ble_eq_true rfl, Nat.le_of_ble_eq_true rfl⟩) (ep_preV hK hZ hw rfl (ckX4_is ev16)) rfl rfl hl.1 rfl (lv_room (Nat.le_of_ble_eq_true rfl)) dX4_lineNow_87 ⟨Nat.le_of_ble_eq_true rfl, Nat.le_of_ble_eq_true rfl⟩) hw (fun H locs hw => ?_)
        obtain ⟨ox17, ho17, hk17⟩ := orL_s hf
        have hT17 : ∀ r, ox17 = .inl r → some r = some res := fun r eo => (by have e := orL_1 hk17 eo; exact e)
        have hJ17 : ∀ o17, ox17 = .inr o17 → ∀ (H : Heap) (locs : List Loc) (ls : Array Slot), ep_W G ep_cl h s H locs → lv_has ls 1 [(0, .ref a0)] → wX4_lineNow p l e s m below meth c G h a0 res 0 0 H locs (F0 m 105 ls []) := by
          intro o17 eo H locs ls hw hl
          have hf := orL_2 hk17 eo
          refine lv_aload_n hx hb dX4_lineNow_105 rfl (lv_at hl 0 rfl) ?_
          refine lv_iconst (v := iI 3) hx hb dX4_lineNow_106 rfl ?_
          refine lv_bipush (v := iI 112) hx hb dX4_lineNow_107 (by decide) ?_
          refine lv_bipush (v := iI 101) hx hb dX4_lineNow_109 (by decide) ?_
          refine lv_bipush (v := iI 110) hx hb dX4_lineNow_111 (by decide) ?_
          obtain ⟨v21, ev21, hf⟩ := ob_s hf
          refine ep_calli0 (va_runV (As := [.int (iI 3), .int (iI 112), .int (iI 101), .int (iI 110)]) (rest := []) ⟨hx, hb, hml, hown, hts⟩ (metX4_is l G h a0 (iI 3) (iI 112) (iI 101) (iI 110) ev21) (cwV 4 hts (lw_V q1277 q1279 qs41 q89 q1280) rfl rfl rfl hdX4_is ⟨Nat.le_of_ble_eq_true rfl, Nat.le_of_ble_eq_true rfl⟩) (ep_preV hK hZ hw rfl (ckX4_is ev21)) rfl rfl hl.1 rfl (lv_room (Nat.le_of_ble_eq_true rfl)) dX4_lineNow_113 ⟨Nat.le_of_ble_eq_true rfl, Nat.le_of_ble_eq_true rfl⟩) hw (fun H locs hw => ?_)
          refine lv_if_eq (tgt := 123) hx hb dX4_lineNow_116 (by decide) (fun c22 => ?_) (fun c22 => ?_)
          · have hf := oi_t hf c22
            refine lv_aload_n hx hb dX4_lineNow_123 rfl (lv_at hl 0 rfl) ?_
            refine lv_iconst (v := iI 5) hx hb dX4_lineNow_124 rfl ?_
            refine lv_bipush (v := iI 111) hx hb dX4_lineNow_125 (by decide) ?_
            refine lv_bipush (v := iI 114) hx hb dX4_lineNow_127 (by decide) ?_
            refine lv_bipush (v := iI 100) hx hb dX4_lineNow_129 (by decide) ?_
            obtain ⟨v23, ev23, hf⟩ := ob_s hf
            refine ep_calli0 (va_runV (As := [.int (iI 5), .int (iI 111), .int (iI 114), .int (iI 100)]) (rest := []) ⟨hx, hb, hml, hown, hts⟩ (metX4_is l G h a0 (iI 5) (iI 111) (iI 114) (iI 100) ev23) (cwV 4 hts (lw_V q1277 q1279 qs41 q89 q1280) rfl rfl rfl hdX4_is ⟨Nat.le_of_ble_eq_true rfl, Nat.le_of_ble_eq_true rfl⟩) (ep_preV hK hZ hw rfl (ckX4_is ev23)) rfl rfl hl.1 rfl (lv_room (Nat.le_of_ble_eq_true rfl)) dX4_lineNow_131 ⟨Nat.le_of_ble_eq_true rfl, Nat.le_of_ble_eq_true rfl⟩) hw (fun H locs hw => ?_)
            refine lv_if_eq (tgt := 152) hx hb dX4_lineNow_134 (by decide) (fun c24 => ?_) (fun c24 => ?_)
            · have hf := oi_t hf c24
              refine lv_bipush (v := iI (-4)) hx hb dX4_lineNow_152 (by decide) ?_
              exact ep_retiR hx hb hr hlocks hw hf dX4_lineNow_154
            · have hf := oi_f hf c24
              refine lv_aload_n hx hb dX4_lineNow_137 rfl (lv_at hl 0 rfl) ?_
              refine lv_bipush (v := iI 101) hx hb dX4_lineNow_138 (by decide) ?_
              refine lv_bipush (v := iI 114) hx hb dX4_lineNow_140 (by decide) ?_
              obtain ⟨v25, ev25, hf⟩ := ob_s hf
              refine ep_calli0 (va_runV (As := [.int (iI 101), .int (iI 114)]) (rest := []) ⟨hx, hb, hml, hown, hts⟩ (metX4_ends l G h a0 (iI 101) (iI 114) ev25) (cwV 2 hts (lw_V q1281 q1283 qs42 q89 q1284) rfl rfl rfl hdX4_ends ⟨Nat.le_of_ble_eq_true rfl, Nat.le_of_ble_eq_true rfl⟩) (ep_preV hK hZ hw rfl (ckX4_ends ev25)) rfl rfl hl.1 rfl (lv_room (Nat.le_of_ble_eq_true rfl)) dX4_lineNow_142 ⟨Nat.le_of_ble_eq_true rfl, Nat.le_of_ble_eq_true rfl⟩) hw (fun H locs hw => ?_)
              refine lv_if_eq (tgt := 152) hx hb dX4_lineNow_145 (by decide) (fun c26 => ?_) (fun c26 => ?_)
              · have hf := oi_t hf c26
                refine lv_bipush (v := iI (-4)) hx hb dX4_lineNow_152 (by decide) ?_
                exact ep_retiR hx hb hr hlocks hw hf dX4_lineNow_154
              · have hf := oi_f hf c26
                refine lv_iconst (v := iI 5) hx hb dX4_lineNow_148 rfl ?_
                refine lv_goto (tgt := 154) hx hb dX4_lineNow_149 (by decide) ?_
                exact ep_retiR hx hb hr hlocks hw hf dX4_lineNow_154
          · have hf := oi_f hf c22
            refine lv_iconst (v := iI 4) hx hb dX4_lineNow_119 rfl ?_
            refine lv_goto (tgt := 154) hx hb dX4_lineNow_120 (by decide) ?_
            exact ep_retiR hx hb hr hlocks hw hf dX4_lineNow_154
        refine lv_if_eq (tgt := 105) hx hb dX4_lineNow_90 (by decide) (fun c18 => ?_) (fun c18 => ?_)
        · have ho17 := oi_t ho17 c18
          exact hJ17 _ (Option.some.inj ho17).symm _ _ _ hw (lv_sub hl [0] rfl)
        · have ho17 := oi_f ho17 c18
          refine lv_aload_n hx hb dX4_lineNow_93 rfl (lv_at hl 0 rfl) ?_
          refine lv_bipush (v := iI 100) hx hb dX4_lineNow_94 (by decide) ?_
          refine lv_iconst (v := iI 0) hx hb dX4_lineNow_96 rfl ?_
          obtain ⟨v19, ev19, ho17⟩ := ob_s ho17
          refine ep_calli0 (va_runV (As := [.int (iI 100), .int (iI 0)]) (rest := []) ⟨hx, hb, hml, hown, hts⟩ (metX4_ends l G h a0 (iI 100) (iI 0) ev19) (cwV 2 hts (lw_V q1281 q1283 qs42 q89 q1284) rfl rfl rfl hdX4_ends ⟨Nat.le_of_ble_eq_true rfl, Nat.le_of_ble_eq_true rfl⟩) (ep_preV hK hZ hw rfl (ckX4_ends ev19)) rfl rfl hl.1 rfl (lv_room (Nat.le_of_ble_eq_true rfl)) dX4_lineNow_97 ⟨Nat.le_of_ble_eq_true rfl, Nat.le_of_ble_eq_true rfl⟩) hw (fun H locs hw => ?_)
          refine lv_if_eq (tgt := 105) hx hb dX4_lineNow_100 (by decide) (fun c20 => ?_) (fun c20 => ?_)
          · have ho17 := oi_t ho17 c20
            exact hJ17 _ (Option.some.inj ho17).symm _ _ _ hw (lv_sub hl [0] rfl)
          · have ho17 := oi_f ho17 c20
            refine lv_iconst (v := iI 3) hx hb dX4_lineNow_103 rfl ?_
            exact ep_retiR hx hb hr hlocks hw (hT17 _ (Option.some.inj ho17).symm) dX4_lineNow_104
      refine lv_if_eq (tgt := 79) hx hb dX4_lineNow_64 (by decide) (fun c13 => ?_) (fun c13 => ?_)
      · have ho12 := oi_t ho12 c13
        exact hJ12 _ (Option.some.inj ho12).symm _ _ _ hw (lv_sub hl [0] rfl)
      · have ho12 := oi_f ho12 c13
        refine lv_aload_n hx hb dX4_lineNow_67 rfl (lv_at hl 0 rfl) ?_
        refine lv_bipush (v := iI 116) hx hb dX4_lineNow_68 (by decide) ?_
        refine lv_iconst (v := iI 0) hx hb dX4_lineNow_70 rfl ?_
        obtain ⟨v14, ev14, ho12⟩ := ob_s ho12
        refine ep_calli0 (va_runV (As := [.int (iI 116), .int (iI 0)]) (rest := []) ⟨hx, hb, hml, hown, hts⟩ (metX4_ends l G h a0 (iI 116) (iI 0) ev14) (cwV 2 hts (lw_V q1281 q1283 qs42 q89 q1284) rfl rfl rfl hdX4_ends ⟨Nat.le_of_ble_eq_true rfl, Nat.le_of_ble_eq_true rfl⟩) (ep_preV hK hZ hw rfl (ckX4_ends ev14)) rfl rfl hl.1 rfl (lv_room (Nat.le_of_ble_eq_true rfl)) dX4_lineNow_71 ⟨Nat.le_of_ble_eq_true rfl, Nat.le_of_ble_eq_true rfl⟩) hw (fun H locs hw => ?_)
        refine lv_if_eq (tgt := 79) hx hb dX4_lineNow_74 (by decide) (fun c15 => ?_) (fun c15 => ?_)
        · have ho12 := oi_t ho12 c15
          exact hJ12 _ (Option.some.inj ho12).symm _ _ _ hw (lv_sub hl [0] rfl)
        · have ho12 := oi_f ho12 c15
          refine lv_iconst (v := iI 2) hx hb dX4_lineNow_77 rfl ?_
          exact ep_retiR hx hb hr hlocks hw (hT12 _ (Option.some.inj ho12).symm) dX4_lineNow_78
    refine lv_if_eq (tgt := 53) hx hb dX4_lineNow_38 (by decide) (fun c8 => ?_) (fun c8 => ?_)
    · have ho7 := oi_t ho7 c8
      exact hJ7 _ (Option.some.inj ho7).symm _ _ _ hw (lv_sub hl [0] rfl)
    · have ho7 := oi_f ho7 c8
      refine lv_aload_n hx hb dX4_lineNow_41 rfl (lv_at hl 0 rfl) ?_
      refine lv_bipush (v := iI 110) hx hb dX4_lineNow_42 (by decide) ?_
      refine lv_iconst (v := iI 0) hx hb dX4_lineNow_44 rfl ?_
      obtain ⟨v9, ev9, ho7⟩ := ob_s ho7
      refine ep_calli0 (va_runV (As := [.int (iI 110), .int (iI 0)]) (rest := []) ⟨hx, hb, hml, hown, hts⟩ (metX4_ends l G h a0 (iI 110) (iI 0) ev9) (cwV 2 hts (lw_V q1281 q1283 qs42 q89 q1284) rfl rfl rfl hdX4_ends ⟨Nat.le_of_ble_eq_true rfl, Nat.le_of_ble_eq_true rfl⟩) (ep_preV hK hZ hw rfl (ckX4_ends ev9)) rfl rfl hl.1 rfl (lv_room (Nat.le_of_ble_eq_true rfl)) dX4_lineNow_45 ⟨Nat.le_of_ble_eq_true rfl, Nat.le_of_ble_eq_true rfl⟩) hw (fun H locs hw => ?_)
      refine lv_if_eq (tgt := 53) hx hb dX4_lineNow_48 (by decide) (fun c10 => ?_) (fun c10 => ?_)
      · have ho7 := oi_t ho7 c10
        exact hJ7 _ (Option.some.inj ho7).symm _ _ _ hw (lv_sub hl [0] rfl)
      · have ho7 := oi_f ho7 c10
        refine lv_iconst (v := iI 1) hx hb dX4_lineNow_51 rfl ?_
        exact ep_retiR hx hb hr hlocks hw (hT7 _ (Option.some.inj ho7).symm) dX4_lineNow_52
  refine lv_if_eq (tgt := 27) hx hb dX4_lineNow_11 (by decide) (fun c3 => ?_) (fun c3 => ?_)
  · have ho2 := oi_t ho2 c3
    exact hJ2 _ (Option.some.inj ho2).symm _ _ _ hw (lv_sub hl [0] rfl)
  · have ho2 := oi_f ho2 c3
    refine lv_aload_n hx hb dX4_lineNow_14 rfl (lv_at hl 0 rfl) ?_
    refine lv_bipush (v := iI 105) hx hb dX4_lineNow_15 (by decide) ?_
    refine lv_bipush (v := iI 110) hx hb dX4_lineNow_17 (by decide) ?_
    obtain ⟨v4, ev4, ho2⟩ := ob_s ho2
    refine ep_calli0 (va_runV (As := [.int (iI 105), .int (iI 110)]) (rest := []) ⟨hx, hb, hml, hown, hts⟩ (metX4_ends l G h a0 (iI 105) (iI 110) ev4) (cwV 2 hts (lw_V q1281 q1283 qs42 q89 q1284) rfl rfl rfl hdX4_ends ⟨Nat.le_of_ble_eq_true rfl, Nat.le_of_ble_eq_true rfl⟩) (ep_preV hK hZ hw rfl (ckX4_ends ev4)) rfl rfl hl.1 rfl (lv_room (Nat.le_of_ble_eq_true rfl)) dX4_lineNow_19 ⟨Nat.le_of_ble_eq_true rfl, Nat.le_of_ble_eq_true rfl⟩) hw (fun H locs hw => ?_)
    refine lv_if_eq (tgt := 27) hx hb dX4_lineNow_22 (by decide) (fun c5 => ?_) (fun c5 => ?_)
    · have ho2 := oi_t ho2 c5
      exact hJ2 _ (Option.some.inj ho2).symm _ _ _ hw (lv_sub hl [0] rfl)
    · have ho2 := oi_f ho2 c5
      refine lv_iconst (v := iI 0) hx hb dX4_lineNow_25 rfl ?_
      exact ep_retiR hx hb hr hlocks hw (hT2 _ (Option.some.inj ho2).symm) dX4_lineNow_26
theorem hsX4_vowelOf : yX4_vowelOf.cls ≠ "java/lang/invoke/MethodHandle" ∧ yX4_vowelOf.cls ≠ "java/lang/invoke/VarHandle" ∧ (parseMethodDescriptor yX4_vowelOf.desc).map (fun d => d.parameters.length) = some 1 := by decide +kernel
abbrev wX4_vowelOf (p : Program) (l : Launch) (e : Env) (s : State) (m : MethodId) (below : List Frame) (meth : Method) (c : Code) (G : EG) (h : Hp) (x0 : Int32) (res : Int32) (k9 n9 : Nat) (H : Heap) (locs : List Loc) (g : JFrame) : Prop := W p l e (headSpec (ws_ yX4_vowelOf cX4_vowelOf 1 (some .int)) ({ frames := 0, cells := 0, slots := 0, locals := 0 } : Room)).room s m ([.int x0] : List Value).toArray below meth c H locs k9 n9 (MQ below (ep_Qi G ep_cl h res) ([.int x0] : List Value).toArray s 0 0 (ep_A G)) g
set_option maxHeartbeats 4000000 in
theorem metX4_vowelOf (l : Launch) (G : EG) (h : Hp) (x0 : Int32) {res : Int32} (hf : fX4_vowelOf x0 = some res) : Met l yX4_vowelOf (ws_ yX4_vowelOf cX4_vowelOf 1 (some .int)) ({ frames := 0, cells := 0, slots := 0, locals := 0 } : Room) (ep_Pc G ep_cl h [.int x0]) (ep_Qi G ep_cl h res) 0 0 (ep_A G) := by
  refine Met.ofW (cc := cX4_vowelOf) (maxL := 1) (ret := (some .int)) (by decide) rfl ?_
  intro p e s m args below meth c s₁ B hml hv
  obtain ⟨rfl, hR, hK, hZ⟩ := hv
  have hx := B.exec
  have hb := B.bytes
  have hr := B.returns
  have hlocks := B.notSynchronized
  have hts := atoms_spec (ws := (ws_ yX4_vowelOf cX4_vowelOf 1 (some .int))) B.pre
  have hts : ∀ w ∈ lw_all, w.before _ s = true := fun w h => hts w (List.mem_cons_of_mem _ h)
  have hown : s.vm.findClass RX4 = some m.cls := findClass_of_methodNamed B.named
  have hw : ep_W G ep_cl h s s.heap [] := ⟨hR, va_S.rf⟩
  have hl := lv_entry ([.int x0]) (n := 1) (Nat.le_of_ble_eq_true rfl)
  rw [lg_entry_eq]
  generalize (lg_sl ([.int x0]) ++ List.replicate (1 - (lg_sl ([.int x0])).length) Slot.unset).toArray = ls at hl ⊢
  have hl : lv_has ls 1 [(0, .int x0)] := hl
  unfold fX4_vowelOf at hf
  show wX4_vowelOf p l e s m below meth c G h x0 res 0 0 s.heap ([]) (F0 m 0 ls [])
  refine lv_iload_n hx hb dX4_vowelOf_0 rfl (lv_at hl 0 rfl) ?_
  refine lv_bipush (v := iI 97) hx hb dX4_vowelOf_1 (by decide) ?_
  refine lv_icmp_ne (tgt := 10) hx hb dX4_vowelOf_3 (by decide) (fun c1 => ?_) (fun c1 => ?_)
  · have hf := oi_f hf c1
    refine lv_iload_n hx hb dX4_vowelOf_10 rfl (lv_at hl 0 rfl) ?_
    refine lv_bipush (v := iI 101) hx hb dX4_vowelOf_11 (by decide) ?_
    refine lv_icmp_ne (tgt := 20) hx hb dX4_vowelOf_13 (by decide) (fun c2 => ?_) (fun c2 => ?_)
    · have hf := oi_f hf c2
      refine lv_iload_n hx hb dX4_vowelOf_20 rfl (lv_at hl 0 rfl) ?_
      refine lv_bipush (v := iI 105) hx hb dX4_vowelOf_21 (by decide) ?_
      refine lv_icmp_ne (tgt := 30) hx hb dX4_vowelOf_23 (by decide) (fun c3 => ?_) (fun c3 => ?_)
      · have hf := oi_f hf c3
        refine lv_iload_n hx hb dX4_vowelOf_30 rfl (lv_at hl 0 rfl) ?_
        refine lv_bipush (v := iI 111) hx hb dX4_vowelOf_31 (by decide) ?_
        refine lv_icmp_ne (tgt := 40) hx hb dX4_vowelOf_33 (by decide) (fun c4 => ?_) (fun c4 => ?_)
        · have hf := oi_f hf c4
          refine lv_iload_n hx hb dX4_vowelOf_40 rfl (lv_at hl 0 rfl) ?_
          refine lv_bipush (v := iI 117) hx hb dX4_vowelOf_41 (by decide) ?_
          refine lv_icmp_ne (tgt := 50) hx hb dX4_vowelOf_43 (by decide) (fun c5 => ?_) (fun c5 => ?_)
          · have hf := oi_f hf c5
            refine lv_bipush (v := iI (-4)) hx hb dX4_vowelOf_50 (by decide) ?_
            exact ep_retiR hx hb hr hlocks hw hf dX4_vowelOf_52
          · have hf := oi_t hf c5
            refine lv_iconst (v := iI 4) hx hb dX4_vowelOf_46 rfl ?_
            refine lv_goto (tgt := 52) hx hb dX4_vowelOf_47 (by decide) ?_
            exact ep_retiR hx hb hr hlocks hw hf dX4_vowelOf_52
        · have hf := oi_t hf c4
          refine lv_iconst (v := iI 3) hx hb dX4_vowelOf_36 rfl ?_
          refine lv_goto (tgt := 52) hx hb dX4_vowelOf_37 (by decide) ?_
          exact ep_retiR hx hb hr hlocks hw hf dX4_vowelOf_52
      · have hf := oi_t hf c3
        refine lv_iconst (v := iI 2) hx hb dX4_vowelOf_26 rfl ?_
        refine lv_goto (tgt := 52) hx hb dX4_vowelOf_27 (by decide) ?_
        exact ep_retiR hx hb hr hlocks hw hf dX4_vowelOf_52
    · have hf := oi_t hf c2
      refine lv_iconst (v := iI 1) hx hb dX4_vowelOf_16 rfl ?_
      refine lv_goto (tgt := 52) hx hb dX4_vowelOf_17 (by decide) ?_
      exact ep_retiR hx hb hr hlocks hw hf dX4_vowelOf_52
  · have hf := oi_t hf c1
    refine lv_iconst (v := iI 0) hx hb dX4_vowelOf_6 rfl ?_
    refine lv_goto (tgt := 52) hx hb dX4_vowelOf_7 (by decide) ?_
    exact ep_retiR hx hb hr hlocks hw hf dX4_vowelOf_52
theorem hdX4_readVowel : yX4_readVowel.cls = RX4 ∧ yX4_readVowel.cls ≠ "java/lang/invoke/MethodHandle" ∧ yX4_readVowel.cls ≠ "java/lang/invoke/VarHandle" ∧ (parseMethodDescriptor yX4_readVowel.desc).map (fun d => d.parameters.length) = some 0 := by decide +kernel
theorem ckX4_readVowel {h : Hp} {a0 : Nat} {res : Int32 × Hp} (hf : fX4_readVowel h a0 = some res) : ep_cls h a0 = some 4 := by
  unfold fX4_readVowel at hf
  exact (oi_c hf).1
abbrev wX4_readVowel (p : Program) (l : Launch) (e : Env) (s : State) (m : MethodId) (below : List Frame) (meth : Method) (c : Code) (G : EG) (h : Hp) (a0 : Nat) (res : Int32 × Hp) (k9 n9 : Nat) (H : Heap) (locs : List Loc) (g : JFrame) : Prop := W p l e (headSpec (ws_ yX4_readVowel cX4_readVowel 2 (some .int)) ({ frames := 2, cells := 0, slots := 0, locals := 46 } : Room)).room s m ([.ref a0] : List Value).toArray below meth c H locs k9 n9 (MQ below (ep_Qi G ep_cl res.2 res.1) ([.ref a0] : List Value).toArray s 0 0 (ep_A G)) g
set_option maxHeartbeats 4000000 in
theorem metX4_readVowel (l : Launch) (G : EG) (h : Hp) (a0 : Nat) {res : Int32 × Hp} (hf : fX4_readVowel h a0 = some res) : Met l yX4_readVowel (ws_ yX4_readVowel cX4_readVowel 2 (some .int)) ({ frames := 2, cells := 0, slots := 0, locals := 46 } : Room) (ep_Pc G ep_cl h [.ref a0]) (ep_Qi G ep_cl res.2 res.1) 0 0 (ep_A G) := by
  refine Met.ofW (cc := cX4_readVowel) (maxL := 2) (ret := (some .int)) (by decide) rfl ?_
  intro p e s m args below meth c s₁ B hml hv
  obtain ⟨rfl, hR, hK, hZ⟩ := hv
  have hx := B.exec
  have hb := B.bytes
  have hr := B.returns
  have hlocks := B.notSynchronized
  have hts := atoms_spec (ws := (ws_ yX4_readVowel cX4_readVowel 2 (some .int))) B.pre
  have hts : ∀ w ∈ lw_all, w.before _ s = true := fun w h => hts w (List.mem_cons_of_mem _ h)
  have hown : s.vm.findClass RX4 = some m.cls := findClass_of_methodNamed B.named
  have hw : ep_W G ep_cl h s s.heap [] := ⟨hR, va_S.rf⟩
  have hl := lv_entry ([.ref a0]) (n := 2) (Nat.le_of_ble_eq_true rfl)
  rw [lg_entry_eq]
  generalize (lg_sl ([.ref a0]) ++ List.replicate (2 - (lg_sl ([.ref a0])).length) Slot.unset).toArray = ls at hl ⊢
  have hl : lv_has ls 2 [(0, .ref a0)] := hl
  unfold fX4_readVowel at hf
  have hf := (oi_c hf).2
  show wX4_readVowel p l e s m below meth c G h a0 res 0 0 s.heap ([]) (F0 m 0 ls [])
  refine lv_aload_n hx hb dX4_readVowel_0 rfl (lv_at hl 0 rfl) ?_
  obtain ⟨v1, ev1, hf⟩ := ob_s hf
  refine ep_get (C := RX4) (T := TX4) (N := 32) (ci := 4) hx hb hts in_X4 hown hK hw rfl 19 (by decide) q1158 (gI_f ev1) dX4_readVowel_1 ?_
  obtain ⟨o2, ho2, hf⟩ := ob_s hf
  have hJ2 : ∀ (H : Heap) (locs : List Loc) (ls : Array Slot), ep_W G ep_cl o2 s H locs → lv_has ls 2 [(0, .ref a0)] → wX4_readVowel p l e s m below meth c G h a0 res 0 0 H locs (F0 m 25 ls []) := by
    intro H locs ls hw hl
    refine lv_aload_n hx hb dX4_readVowel_25 rfl (lv_at hl 0 rfl) ?_
    obtain ⟨v8, ev8, hf⟩ := ob_s hf
    refine ep_get (C := RX4) (T := TX4) (N := 32) (ci := 4) hx hb hts in_X4 hown hK hw rfl 15 (by decide) q1154 (gI_f ev8) dX4_readVowel_26 ?_
    refine lv_aload_n hx hb dX4_readVowel_29 rfl (lv_at hl 0 rfl) ?_
    obtain ⟨v9, ev9, hf⟩ := ob_s hf
    refine ep_get (C := RX4) (T := TX4) (N := 32) (ci := 4) hx hb hts in_X4 hown hK hw rfl 16 (by decide) q1155 (gI_f ev9) dX4_readVowel_30 ?_
    refine lv_isub hx hb dX4_readVowel_33 ?_
    refine lv_iconst (v := iI 1) hx hb dX4_readVowel_34 rfl ?_
    obtain ⟨o10, ho10, hf⟩ := ob_s hf
    have hJ10 : ∀ (H : Heap) (locs : List Loc) (ls : Array Slot), ep_W G ep_cl o2 s H locs → lv_has ls 2 [(0, .ref a0)] → wX4_readVowel p l e s m below meth c G h a0 res 0 0 H locs (F0 m 54 ls [.int o10]) := by
      intro H locs ls hw hl
      refine lv_istore_n (lv' := [(1, .int o10), (0, .ref a0)]) hx hb dX4_readVowel_54 rfl hl (by decide) rfl (fun ls hl => ?_)
      refine lv_aload_n hx hb dX4_readVowel_55 rfl (lv_at hl 1 rfl) ?_
      obtain ⟨v15, ev15, hf⟩ := ob_s hf
      refine ep_get (C := RX4) (T := TX4) (N := 32) (ci := 4) hx hb hts in_X4 hown hK hw rfl 19 (by decide) q1158 (gI_f ev15) dX4_readVowel_56 ?_
      obtain ⟨o16, ho16, hf⟩ := ob_s hf
      have hJ16 : ∀ (H : Heap) (locs : List Loc) (ls : Array Slot), ep_W G ep_cl o16 s H locs → lv_has ls 2 [(0, .ref a0), (1, .int o10)] → wX4_readVowel p l e s m below meth c G h a0 res 0 0 H locs (F0 m 78 ls []) := by
        intro H locs ls hw hl
        refine lv_aload_n hx hb dX4_readVowel_78 rfl (lv_at hl 0 rfl) ?_
        obtain ⟨o21, eo21, hf⟩ := ob_s hf
        refine ep_callv0 (va_runV (As := []) (rest := []) ⟨hx, hb, hml, hown, hts⟩ (metX4_next l G o16 a0 eo21) (cwV 0 hts (lw_V q1253 q1255 qs36 q89 q1256) rfl rfl rfl hdX4_next ⟨Nat.le_of_ble_eq_true rfl, Nat.le_of_ble_eq_true rfl⟩) (ep_preV hK hZ hw rfl (ckX4_next eo21)) rfl rfl hl.1 rfl (lv_room (Nat.le_of_ble_eq_true rfl)) dX4_readVowel_79 ⟨Nat.le_of_ble_eq_true rfl, Nat.le_of_ble_eq_true rfl⟩) hw (fun H locs hw => ?_)
        refine lv_iload_n hx hb dX4_readVowel_82 rfl (lv_at hl 1 rfl) ?_
        exact ep_retiW hx hb hr hlocks hw hf dX4_readVowel_83
      refine lv_if_ne (tgt := 78) hx hb dX4_readVowel_59 (by decide) (fun c17 => ?_) (fun c17 => ?_)
      · have ho16 := oi_f ho16 c17
        obtain rfl := Option.some.inj ho16
        exact hJ16 _ _ _ hw (lv_sub hl [1, 0] rfl)
      · have ho16 := oi_t ho16 c17
        refine lv_aload_n hx hb dX4_readVowel_62 rfl (lv_at hl 1 rfl) ?_
        refine lv_iload_n hx hb dX4_readVowel_63 rfl (lv_at hl 0 rfl) ?_
        refine lv_bipush (v := iI (-4)) hx hb dX4_readVowel_64 (by decide) ?_
        have hJ18 : wX4_readVowel p l e s m below meth c G h a0 res 0 0 H locs (F0 m 74 ls [.int (if o10 = (iI (-4)) then iI 0 else iI 1), .ref a0]) := by
          refine lv_iconst (v := iI 3) hx hb dX4_readVowel_74 rfl ?_
          obtain ⟨o20, eo20, ho16⟩ := ob_s ho16
          refine ep_callv0 (va_runV (As := [.int (if o10 = (iI (-4)) then iI 0 else iI 1), .int (iI 3)]) (rest := []) ⟨hx, hb, hml, hown, hts⟩ (metX4_needs l G o2 a0 (if o10 = (iI (-4)) then iI 0 else iI 1) (iI 3) eo20) (cwV 2 hts (lw_V q1265 q1267 qs38 q89 q1268) rfl rfl rfl hdX4_needs ⟨Nat.le_of_ble_eq_true rfl, Nat.le_of_ble_eq_true rfl⟩) (ep_preV hK hZ hw rfl (ckX4_needs eo20)) rfl rfl hl.1 rfl (lv_room (Nat.le_of_ble_eq_true rfl)) dX4_readVowel_75 ⟨Nat.le_of_ble_eq_true rfl, Nat.le_of_ble_eq_true rfl⟩) hw (fun H locs hw => ?_)
          obtain rfl := Option.some.inj ho16
          exact hJ16 _ _ _ hw (lv_sub hl [1, 0] rfl)
        refine lv_icmp_eq (tgt := 73) hx hb dX4_readVowel_66 (by decide) (fun c19 => ?_) (fun c19 => ?_)
        · refine lv_iconst (v := iI 0) hx hb dX4_readVowel_73 rfl ?_
          rw [if_pos c19] at hJ18
          exact hJ18
        · refine lv_iconst (v := iI 1) hx hb dX4_readVowel_69 rfl ?_
          refine lv_goto (tgt := 74) hx hb dX4_readVowel_70 (by decide) ?_
          rw [if_neg c19] at hJ18
          exact hJ18
    refine lv_icmp_ne (tgt := 52) hx hb dX4_readVowel_35 (by decide) (fun c11 => ?_) (fun c11 => ?_)
    · have ho10 := oi_f ho10 c11
      refine lv_bipush (v := iI (-4)) hx hb dX4_readVowel_52 (by decide) ?_
      obtain rfl := Option.some.inj ho10
      exact hJ10 _ _ _ hw (lv_sub hl [0] rfl)
    · have ho10 := oi_t ho10 c11
      refine lv_aload_n hx hb dX4_readVowel_38 rfl (lv_at hl 0 rfl) ?_
      refine lv_aload_n hx hb dX4_readVowel_39 rfl (lv_at hl 0 rfl) ?_
      obtain ⟨v12, ev12, ho10⟩ := ob_s ho10
      refine ep_get (C := RX4) (T := TX4) (N := 32) (ci := 4) hx hb hts in_X4 hown hK hw rfl 16 (by decide) q1155 (gI_f ev12) dX4_readVowel_40 ?_
      obtain ⟨v13, ev13, ho10⟩ := ob_s ho10
      refine ep_calli0 (va_runV (As := [.int v12]) (rest := []) ⟨hx, hb, hml, hown, hts⟩ (metX4_byteAt l G o2 a0 v12 ev13) (cwV 1 hts (lw_V q1257 q1259 qs37 q89 q1260) rfl rfl rfl hdX4_byteAt ⟨Nat.le_of_ble_eq_true rfl, Nat.le_of_ble_eq_true rfl⟩) (ep_preV hK hZ hw rfl (ckX4_byteAt ev13)) rfl rfl hl.1 rfl (lv_room (Nat.le_of_ble_eq_true rfl)) dX4_readVowel_43 ⟨Nat.le_of_ble_eq_true rfl, Nat.le_of_ble_eq_true rfl⟩) hw (fun H locs hw => ?_)
      obtain ⟨v14, ev14, ho10⟩ := ob_s ho10
      refine ep_calli0 (va_runS (As := [.int v13]) (rest := []) ⟨hx, hb, hml, hown, hts⟩ (metX4_vowelOf l G o2 v13 ev14) (va_cwS 1 hts (lw_S q1293 q1294 q89 q1295) rfl rfl rfl hsX4_vowelOf ⟨Nat.le_of_ble_eq_true rfl, Nat.le_of_ble_eq_true rfl⟩) (ep_preS hK hZ hw) rfl rfl hl.1 rfl (lv_room (Nat.le_of_ble_eq_true rfl)) dX4_readVowel_46 ⟨Nat.le_of_ble_eq_true rfl, Nat.le_of_ble_eq_true rfl⟩) hw (fun H locs hw => ?_)
      refine lv_goto (tgt := 54) hx hb dX4_readVowel_49 (by decide) ?_
      obtain rfl := Option.some.inj ho10
      exact hJ10 _ _ _ hw (lv_sub hl [0] rfl)
  refine lv_if_ne (tgt := 25) hx hb dX4_readVowel_4 (by decide) (fun c3 => ?_) (fun c3 => ?_)
  · have ho2 := oi_f ho2 c3
    obtain rfl := Option.some.inj ho2
    exact hJ2 _ _ _ hw (lv_sub hl [0] rfl)
  · have ho2 := oi_t ho2 c3
    refine lv_aload_n hx hb dX4_readVowel_7 rfl (lv_at hl 0 rfl) ?_
    refine lv_aload_n hx hb dX4_readVowel_8 rfl (lv_at hl 0 rfl) ?_
    obtain ⟨v4, ev4, ho2⟩ := ob_s ho2
    refine ep_get (C := RX4) (T := TX4) (N := 32) (ci := 4) hx hb hts in_X4 hown hK hw rfl 17 (by decide) q1156 (gI_f ev4) dX4_readVowel_9 ?_
    refine lv_iconst (v := iI 1) hx hb dX4_readVowel_12 rfl ?_
    have hJ5 : wX4_readVowel p l e s m below meth c G h a0 res 0 0 s.heap ([]) (F0 m 21 ls [.int (if v4 = (iI 1) then iI 1 else iI 0), .ref a0]) := by
      refine lv_iconst (v := iI 2) hx hb dX4_readVowel_21 rfl ?_
      obtain ⟨o7, eo7, ho2⟩ := ob_s ho2
      refine ep_callv0 (va_runV (As := [.int (if v4 = (iI 1) then iI 1 else iI 0), .int (iI 2)]) (rest := []) ⟨hx, hb, hml, hown, hts⟩ (metX4_needs l G h a0 (if v4 = (iI 1) then iI 1 else iI 0) (iI 2) eo7) (cwV 2 hts (lw_V q1265 q1267 qs38 q89 q1268) rfl rfl rfl hdX4_needs ⟨Nat.le_of_ble_eq_true rfl, Nat.le_of_ble_eq_true rfl⟩) (ep_preV hK hZ hw rfl (ckX4_needs eo7)) rfl rfl hl.1 rfl (lv_room (Nat.le_of_ble_eq_true rfl)) dX4_readVowel_22 ⟨Nat.le_of_ble_eq_true rfl, Nat.le_of_ble_eq_true rfl⟩) hw (fun H locs hw => ?_)
      obtain rfl := Option.some.inj ho2
      exact hJ2 _ _ _ hw (lv_sub hl [0] rfl)
    refine lv_icmp_ne (tgt := 20) hx hb dX4_readVowel_13 (by decide) (fun c6 => ?_) (fun c6 => ?_)
    · refine lv_iconst (v := iI 0) hx hb dX4_readVowel_20 rfl ?_
      rw [if_neg c6] at hJ5
      exact hJ5
    · refine lv_iconst (v := iI 1) hx hb dX4_readVowel_16 rfl ?_
      refine lv_goto (tgt := 21) hx hb dX4_readVowel_17 (by decide) ?_
      rw [if_pos c6] at hJ5
      exact hJ5
theorem hdX4_readNumber : yX4_readNumber.cls = RX4 ∧ yX4_readNumber.cls ≠ "java/lang/invoke/MethodHandle" ∧ yX4_readNumber.cls ≠ "java/lang/invoke/VarHandle" ∧ (parseMethodDescriptor yX4_readNumber.desc).map (fun d => d.parameters.length) = some 2 := by decide +kernel
theorem ckX4_readNumber {h : Hp} {a0 : Nat} {x1 : Int32} {x2 : Int32} {res : Int32 × Hp} (hf : fX4_readNumber h a0 x1 x2 = some res) : ep_cls h a0 = some 4 := by
  unfold fX4_readNumber at hf
  exact (oi_c hf).1
abbrev wX4_readNumber (p : Program) (l : Launch) (e : Env) (s : State) (m : MethodId) (below : List Frame) (meth : Method) (c : Code) (G : EG) (h : Hp) (a0 : Nat) (x1 : Int32) (x2 : Int32) (res : Int32 × Hp) (k9 n9 : Nat) (H : Heap) (locs : List Loc) (g : JFrame) : Prop := W p l e (headSpec (ws_ yX4_readNumber cX4_readNumber 4 (some .int)) ({ frames := 2, cells := 0, slots := 0, locals := 46 } : Room)).room s m ([.ref a0, .int x1, .int x2] : List Value).toArray below meth c H locs k9 n9 (MQ below (ep_Qi G ep_cl res.2 res.1) ([.ref a0, .int x1, .int x2] : List Value).toArray s 0 0 (ep_A G)) g
set_option maxHeartbeats 4000000 in
theorem metX4_readNumber (l : Launch) (G : EG) (h : Hp) (a0 : Nat) (x1 : Int32) (x2 : Int32) {res : Int32 × Hp} (hf : fX4_readNumber h a0 x1 x2 = some res) : Met l yX4_readNumber (ws_ yX4_readNumber cX4_readNumber 4 (some .int)) ({ frames := 2, cells := 0, slots := 0, locals := 46 } : Room) (ep_Pc G ep_cl h [.ref a0, .int x1, .int x2]) (ep_Qi G ep_cl res.2 res.1) 0 0 (ep_A G) := by
  refine Met.ofW (cc := cX4_readNumber) (maxL := 4) (ret := (some .int)) (by decide) rfl ?_
  intro p e s m args below meth c s₁ B hml hv
  obtain ⟨rfl, hR, hK, hZ⟩ := hv
  have hx := B.exec
  have hb := B.bytes
  have hr := B.returns
  have hlocks := B.notSynchronized
  have hts := atoms_spec (ws := (ws_ yX4_readNumber cX4_readNumber 4 (some .int))) B.pre
  have hts : ∀ w ∈ lw_all, w.before _ s = true := fun w h => hts w (List.mem_cons_of_mem _ h)
  have hown : s.vm.findClass RX4 = some m.cls := findClass_of_methodNamed B.named
  have hw : ep_W G ep_cl h s s.heap [] := ⟨hR, va_S.rf⟩
  have hl := lv_entry ([.ref a0, .int x1, .int x2]) (n := 4) (Nat.le_of_ble_eq_true rfl)
  rw [lg_entry_eq]
  generalize (lg_sl ([.ref a0, .int x1, .int x2]) ++ List.replicate (4 - (lg_sl ([.ref a0, .int x1, .int x2])).length) Slot.unset).toArray = ls at hl ⊢
  have hl : lv_has ls 4 [(0, .ref a0), (1, .int x1), (2, .int x2)] := hl
  unfold fX4_readNumber at hf
  have hf := (oi_c hf).2
  show wX4_readNumber p l e s m below meth c G h a0 x1 x2 res 0 0 s.heap ([]) (F0 m 0 ls [])
  refine lv_aload_n hx hb dX4_readNumber_0 rfl (lv_at hl 0 rfl) ?_
  obtain ⟨v1, ev1, hf⟩ := ob_s hf
  refine ep_get (C := RX4) (T := TX4) (N := 32) (ci := 4) hx hb hts in_X4 hown hK hw rfl 19 (by decide) q1158 (gI_f ev1) dX4_readNumber_1 ?_
  obtain ⟨o2, ho2, hf⟩ := ob_s hf
  have hJ2 : ∀ (H : Heap) (locs : List Loc) (ls : Array Slot), ep_W G ep_cl o2 s H locs → lv_has ls 4 [(0, .ref a0), (1, .int x1), (2, .int x2)] → wX4_readNumber p l e s m below meth c G h a0 x1 x2 res 0 0 H locs (F0 m 25 ls []) := by
    intro H locs ls hw hl
    refine lv_aload_n hx hb dX4_readNumber_25 rfl (lv_at hl 0 rfl) ?_
    obtain ⟨v8, ev8, hf⟩ := ob_s hf
    refine ep_get (C := RX4) (T := TX4) (N := 32) (ci := 4) hx hb hts in_X4 hown hK hw rfl 19 (by decide) q1158 (gI_f ev8) dX4_readNumber_26 ?_
    obtain ⟨o9, ho9, hf⟩ := ob_s hf
    have hJ9 : ∀ (H : Heap) (locs : List Loc) (ls : Array Slot), ep_W G ep_cl o9 s H locs → lv_has ls 4 [(0, .ref a0)] → wX4_readNumber p l e s m below meth c G h a0 x1 x2 res 0 0 H locs (F0 m 49 ls []) := by
      intro H locs ls hw hl
      refine lv_aload_n hx hb dX4_readNumber_49 rfl (lv_at hl 0 rfl) ?_
      obtain ⟨v14, ev14, hf⟩ := ob_s hf
      refine ep_get (C := RX4) (T := TX4) (N := 32) (ci := 4) hx hb hts in_X4 hown hK hw rfl 19 (by decide) q1158 (gI_f ev14) dX4_readNumber_50 ?_
      obtain ⟨o15, ho15, hf⟩ := ob_s hf
      have hJ15 : ∀ (H : Heap) (locs : List Loc) (ls : Array Slot), ep_W G ep_cl o9 s H locs → lv_has ls 4 [(0, .ref a0)] → wX4_readNumber p l e s m below meth c G h a0 x1 x2 res 0 0 H locs (F0 m 64 ls [.int o15]) := by
        intro H locs ls hw hl
        refine lv_istore_n (lv' := [(3, .int o15), (0, .ref a0)]) hx hb dX4_readNumber_64 rfl hl (by decide) rfl (fun ls hl => ?_)
        refine lv_aload_n hx hb dX4_readNumber_65 rfl (lv_at hl 1 rfl) ?_
        obtain ⟨o18, eo18, hf⟩ := ob_s hf
        refine ep_callv0 (va_runV (As := []) (rest := []) ⟨hx, hb, hml, hown, hts⟩ (metX4_next l G o9 a0 eo18) (cwV 0 hts (lw_V q1253 q1255 qs36 q89 q1256) rfl rfl rfl hdX4_next ⟨Nat.le_of_ble_eq_true rfl, Nat.le_of_ble_eq_true rfl⟩) (ep_preV hK hZ hw rfl (ckX4_next eo18)) rfl rfl hl.1 rfl (lv_room (Nat.le_of_ble_eq_true rfl)) dX4_readNumber_66 ⟨Nat.le_of_ble_eq_true rfl, Nat.le_of_ble_eq_true rfl⟩) hw (fun H locs hw => ?_)
        refine lv_iload_n hx hb dX4_readNumber_69 rfl (lv_at hl 0 rfl) ?_
        exact ep_retiW hx hb hr hlocks hw hf dX4_readNumber_70
      refine lv_if_ne (tgt := 63) hx hb dX4_readNumber_53 (by decide) (fun c16 => ?_) (fun c16 => ?_)
      · have ho15 := oi_f ho15 c16
        refine lv_iconst (v := iI 0) hx hb dX4_readNumber_63 rfl ?_
        obtain rfl := Option.some.inj ho15
        exact hJ15 _ _ _ hw (lv_sub hl [0] rfl)
      · have ho15 := oi_t ho15 c16
        refine lv_aload_n hx hb dX4_readNumber_56 rfl (lv_at hl 0 rfl) ?_
        obtain ⟨v17, ev17, ho15⟩ := ob_s ho15
        refine ep_get (C := RX4) (T := TX4) (N := 32) (ci := 4) hx hb hts in_X4 hown hK hw rfl 18 (by decide) q1157 (gI_f ev17) dX4_readNumber_57 ?_
        refine lv_goto (tgt := 64) hx hb dX4_readNumber_60 (by decide) ?_
        obtain rfl := Option.some.inj ho15
        exact hJ15 _ _ _ hw (lv_sub hl [0] rfl)
    refine lv_if_ne (tgt := 49) hx hb dX4_readNumber_29 (by decide) (fun c10 => ?_) (fun c10 => ?_)
    · have ho9 := oi_f ho9 c10
      obtain rfl := Option.some.inj ho9
      exact hJ9 _ _ _ hw (lv_sub hl [0] rfl)
    · have ho9 := oi_t ho9 c10
      refine lv_aload_n hx hb dX4_readNumber_32 rfl (lv_at hl 0 rfl) ?_
      refine lv_aload_n hx hb dX4_readNumber_33 rfl (lv_at hl 0 rfl) ?_
      obtain ⟨v11, ev11, ho9⟩ := ob_s ho9
      refine ep_get (C := RX4) (T := TX4) (N := 32) (ci := 4) hx hb hts in_X4 hown hK hw rfl 18 (by decide) q1157 (gI_f ev11) dX4_readNumber_34 ?_
      refine lv_i2l (v := v11.toInt64) hx hb dX4_readNumber_37 rfl ?_
      refine lv_iload_n hx hb dX4_readNumber_38 rfl (lv_at hl 1 rfl) ?_
      refine lv_i2l (v := x1.toInt64) hx hb dX4_readNumber_39 rfl ?_
      refine lv_iload_n hx hb dX4_readNumber_40 rfl (lv_at hl 2 rfl) ?_
      refine lv_i2l (v := x2.toInt64) hx hb dX4_readNumber_41 rfl ?_
      obtain ⟨v12, ev12, ho9⟩ := ob_s ho9
      refine ep_calli0 (va_runS (As := [.long v11.toInt64, .long x1.toInt64, .long x2.toInt64]) (rest := [.ref a0]) ⟨hx, hb, hml, hown, hts⟩ (metX4_in l G o2 v11.toInt64 x1.toInt64 x2.toInt64 ev12) (va_cwS 3 hts (lw_S q1242 q1243 q89 q1244) rfl rfl rfl hsX4_in ⟨Nat.le_of_ble_eq_true rfl, Nat.le_of_ble_eq_true rfl⟩) (ep_preS hK hZ hw) rfl rfl hl.1 rfl (lv_room (Nat.le_of_ble_eq_true rfl)) dX4_readNumber_42 ⟨Nat.le_of_ble_eq_true rfl, Nat.le_of_ble_eq_true rfl⟩) hw (fun H locs hw => ?_)
      refine lv_iconst (v := iI 3) hx hb dX4_readNumber_45 rfl ?_
      obtain ⟨o13, eo13, ho9⟩ := ob_s ho9
      refine ep_callv0 (va_runV (As := [.int v12, .int (iI 3)]) (rest := []) ⟨hx, hb, hml, hown, hts⟩ (metX4_needs l G o2 a0 v12 (iI 3) eo13) (cwV 2 hts (lw_V q1265 q1267 qs38 q89 q1268) rfl rfl rfl hdX4_needs ⟨Nat.le_of_ble_eq_true rfl, Nat.le_of_ble_eq_true rfl⟩) (ep_preV hK hZ hw rfl (ckX4_needs eo13)) rfl rfl hl.1 rfl (lv_room (Nat.le_of_ble_eq_true rfl)) dX4_readNumber_46 ⟨Nat.le_of_ble_eq_true rfl, Nat.le_of_ble_eq_true rfl⟩) hw (fun H locs hw => ?_)
      obtain rfl := Option.some.inj ho9
      exact hJ9 _ _ _ hw (lv_sub hl [0] rfl)
  refine lv_if_ne (tgt := 25) hx hb dX4_readNumber_4 (by decide) (fun c3 => ?_) (fun c3 => ?_)
  · have ho2 := oi_f ho2 c3
    obtain rfl := Option.some.inj ho2
    exact hJ2 _ _ _ hw (lv_sub hl [0, 1, 2] rfl)
  · have ho2 := oi_t ho2 c3
    refine lv_aload_n hx hb dX4_readNumber_7 rfl (lv_at hl 0 rfl) ?_
    refine lv_aload_n hx hb dX4_readNumber_8 rfl (lv_at hl 0 rfl) ?_
    obtain ⟨v4, ev4, ho2⟩ := ob_s ho2
    refine ep_get (C := RX4) (T := TX4) (N := 32) (ci := 4) hx hb hts in_X4 hown hK hw rfl 17 (by decide) q1156 (gI_f ev4) dX4_readNumber_9 ?_
    refine lv_iconst (v := iI 2) hx hb dX4_readNumber_12 rfl ?_
    have hJ5 : wX4_readNumber p l e s m below meth c G h a0 x1 x2 res 0 0 s.heap ([]) (F0 m 21 ls [.int (if v4 = (iI 2) then iI 1 else iI 0), .ref a0]) := by
      refine lv_iconst (v := iI 2) hx hb dX4_readNumber_21 rfl ?_
      obtain ⟨o7, eo7, ho2⟩ := ob_s ho2
      refine ep_callv0 (va_runV (As := [.int (if v4 = (iI 2) then iI 1 else iI 0), .int (iI 2)]) (rest := []) ⟨hx, hb, hml, hown, hts⟩ (metX4_needs l G h a0 (if v4 = (iI 2) then iI 1 else iI 0) (iI 2) eo7) (cwV 2 hts (lw_V q1265 q1267 qs38 q89 q1268) rfl rfl rfl hdX4_needs ⟨Nat.le_of_ble_eq_true rfl, Nat.le_of_ble_eq_true rfl⟩) (ep_preV hK hZ hw rfl (ckX4_needs eo7)) rfl rfl hl.1 rfl (lv_room (Nat.le_of_ble_eq_true rfl)) dX4_readNumber_22 ⟨Nat.le_of_ble_eq_true rfl, Nat.le_of_ble_eq_true rfl⟩) hw (fun H locs hw => ?_)
      obtain rfl := Option.some.inj ho2
      exact hJ2 _ _ _ hw (lv_sub hl [0, 1, 2] rfl)
    refine lv_icmp_ne (tgt := 20) hx hb dX4_readNumber_13 (by decide) (fun c6 => ?_) (fun c6 => ?_)
    · refine lv_iconst (v := iI 0) hx hb dX4_readNumber_20 rfl ?_
      rw [if_neg c6] at hJ5
      exact hJ5
    · refine lv_iconst (v := iI 1) hx hb dX4_readNumber_16 rfl ?_
      refine lv_goto (tgt := 21) hx hb dX4_readNumber_17 (by decide) ?_
      rw [if_pos c6] at hJ5
      exact hJ5
theorem hdX4_readWord : yX4_readWord.cls = RX4 ∧ yX4_readWord.cls ≠ "java/lang/invoke/MethodHandle" ∧ yX4_readWord.cls ≠ "java/lang/invoke/VarHandle" ∧ (parseMethodDescriptor yX4_readWord.desc).map (fun d => d.parameters.length) = some 2 := by decide +kernel
theorem ckX4_readWord {h : Hp} {a0 : Nat} {a1 : Nat} {x2 : Int32} {res : Hp} (hf : fX4_readWord h a0 a1 x2 = some res) : ep_cls h a0 = some 4 := by
  unfold fX4_readWord at hf
  exact (oi_c hf).1
abbrev wX4_readWord (p : Program) (l : Launch) (e : Env) (s : State) (m : MethodId) (below : List Frame) (meth : Method) (c : Code) (G : EG) (h : Hp) (a0 : Nat) (a1 : Nat) (x2 : Int32) (res : Hp) (k9 n9 : Nat) (H : Heap) (locs : List Loc) (g : JFrame) : Prop := W p l e (headSpec (ws_ yX4_readWord cX4_readWord 4 none) ({ frames := 2, cells := 0, slots := 0, locals := 46 } : Room)).room s m ([.ref a0, .ref a1, .int x2] : List Value).toArray below meth c H locs k9 n9 (MQ below (ep_Qv G ep_cl res) ([.ref a0, .ref a1, .int x2] : List Value).toArray s 0 0 (ep_A G)) g
set_option maxHeartbeats 4000000 in
theorem metX4_readWord (l : Launch) (G : EG) (h : Hp) (a0 : Nat) (a1 : Nat) (x2 : Int32) {res : Hp} (hf : fX4_readWord h a0 a1 x2 = some res) : Met l yX4_readWord (ws_ yX4_readWord cX4_readWord 4 none) ({ frames := 2, cells := 0, slots := 0, locals := 46 } : Room) (ep_Pc G ep_cl h [.ref a0, .ref a1, .int x2]) (ep_Qv G ep_cl res) 0 0 (ep_A G) := by
  refine Met.ofW (cc := cX4_readWord) (maxL := 4) (ret := none) (by decide) rfl ?_
  intro p e s m args below meth c s₁ B hml hv
  obtain ⟨rfl, hR, hK, hZ⟩ := hv
  have hx := B.exec
  have hb := B.bytes
  have hr := B.returns
  have hlocks := B.notSynchronized
  have hts := atoms_spec (ws := (ws_ yX4_readWord cX4_readWord 4 none)) B.pre
  have hts : ∀ w ∈ lw_all, w.before _ s = true := fun w h => hts w (List.mem_cons_of_mem _ h)
  have hown : s.vm.findClass RX4 = some m.cls := findClass_of_methodNamed B.named
  have hw : ep_W G ep_cl h s s.heap [] := ⟨hR, va_S.rf⟩
  have hl := lv_entry ([.ref a0, .ref a1, .int x2]) (n := 4) (Nat.le_of_ble_eq_true rfl)
  rw [lg_entry_eq]
  generalize (lg_sl ([.ref a0, .ref a1, .int x2]) ++ List.replicate (4 - (lg_sl ([.ref a0, .ref a1, .int x2])).length) Slot.unset).toArray = ls at hl ⊢
  have hl : lv_has ls 4 [(0, .ref a0), (1, .ref a1), (2, .int x2)] := hl
  unfold fX4_readWord at hf
  have hf := (oi_c hf).2
  show wX4_readWord p l e s m below meth c G h a0 a1 x2 res 0 0 s.heap ([]) (F0 m 0 ls [])
  refine lv_aload_n hx hb dX4_readWord_0 rfl (lv_at hl 0 rfl) ?_
  obtain ⟨v1, ev1, hf⟩ := ob_s hf
  refine ep_get (C := RX4) (T := TX4) (N := 32) (ci := 4) hx hb hts in_X4 hown hK hw rfl 19 (by decide) q1158 (gI_f ev1) dX4_readWord_1 ?_
  obtain ⟨o2, ho2, hf⟩ := ob_s hf
  have hJ2 : ∀ (H : Heap) (locs : List Loc) (ls : Array Slot), ep_W G ep_cl o2 s H locs → lv_has ls 4 [(0, .ref a0), (1, .ref a1), (2, .int x2)] → wX4_readWord p l e s m below meth c G h a0 a1 x2 res 0 0 H locs (F0 m 25 ls []) := by
    intro H locs ls hw hl
    refine lv_aload_n hx hb dX4_readWord_25 rfl (lv_at hl 0 rfl) ?_
    obtain ⟨v8, ev8, hf⟩ := ob_s hf
    refine ep_get (C := RX4) (T := TX4) (N := 32) (ci := 4) hx hb hts in_X4 hown hK hw rfl 19 (by decide) q1158 (gI_f ev8) dX4_readWord_26 ?_
    obtain ⟨o9, ho9, hf⟩ := ob_s hf
    have hJ9 : ∀ (H : Heap) (locs : List Loc) (ls : Array Slot), ep_W G ep_cl o9 s H locs → lv_has ls 4 [(0, .ref a0), (1, .ref a1), (2, .int x2)] → wX4_readWord p l e s m below meth c G h a0 a1 x2 res 0 0 H locs (F0 m 55 ls []) := by
      intro H locs ls hw hl
      refine lv_aload_n hx hb dX4_readWord_55 rfl (lv_at hl 0 rfl) ?_
      obtain ⟨v16, ev16, hf⟩ := ob_s hf
      refine ep_get (C := RX4) (T := TX4) (N := 32) (ci := 4) hx hb hts in_X4 hown hK hw rfl 19 (by decide) q1158 (gI_f ev16) dX4_readWord_56 ?_
      obtain ⟨o17, ho17, hf⟩ := ob_s hf
      have hJ17 : ∀ (H : Heap) (locs : List Loc) (ls : Array Slot), ep_W G ep_cl o17 s H locs → lv_has ls 4 [(0, .ref a0)] → wX4_readWord p l e s m below meth c G h a0 a1 x2 res 0 0 H locs (F0 m 112 ls []) := by
        intro H locs ls hw hl
        refine lv_aload_n hx hb dX4_readWord_112 rfl (lv_at hl 0 rfl) ?_
        obtain ⟨o29, eo29, hf⟩ := ob_s hf
        refine ep_callv0 (va_runV (As := []) (rest := []) ⟨hx, hb, hml, hown, hts⟩ (metX4_next l G o17 a0 eo29) (cwV 0 hts (lw_V q1253 q1255 qs36 q89 q1256) rfl rfl rfl hdX4_next ⟨Nat.le_of_ble_eq_true rfl, Nat.le_of_ble_eq_true rfl⟩) (ep_preV hK hZ hw rfl (ckX4_next eo29)) rfl rfl hl.1 rfl (lv_room (Nat.le_of_ble_eq_true rfl)) dX4_readWord_113 ⟨Nat.le_of_ble_eq_true rfl, Nat.le_of_ble_eq_true rfl⟩) hw (fun H locs hw => ?_)
        exact ep_retvW hx hb hr hlocks hw hf dX4_readWord_116
      refine lv_if_ne (tgt := 112) hx hb dX4_readWord_59 (by decide) (fun c18 => ?_) (fun c18 => ?_)
      · have ho17 := oi_f ho17 c18
        obtain rfl := Option.some.inj ho17
        exact hJ17 _ _ _ hw (lv_sub hl [0] rfl)
      · have ho17 := oi_t ho17 c18
        refine lv_aload_n hx hb dX4_readWord_62 rfl (lv_at hl 1 rfl) ?_
        refine lv_iload_n hx hb dX4_readWord_63 rfl (lv_at hl 2 rfl) ?_
        refine lv_aload_n hx hb dX4_readWord_64 rfl (lv_at hl 0 rfl) ?_
        obtain ⟨v19, ev19, ho17⟩ := ob_s ho17
        refine ep_get (C := RX4) (T := TX4) (N := 32) (ci := 4) hx hb hts in_X4 hown hK hw rfl 15 (by decide) q1154 (gI_f ev19) dX4_readWord_65 ?_
        refine lv_aload_n hx hb dX4_readWord_68 rfl (lv_at hl 0 rfl) ?_
        obtain ⟨v20, ev20, ho17⟩ := ob_s ho17
        refine ep_get (C := RX4) (T := TX4) (N := 32) (ci := 4) hx hb hts in_X4 hown hK hw rfl 16 (by decide) q1155 (gI_f ev20) dX4_readWord_69 ?_
        refine lv_isub hx hb dX4_readWord_72 ?_
        obtain ⟨h21, eh21, ho17⟩ := ob_s ho17
        refine ep_iast hx hb hK hw eh21 dX4_readWord_73 (fun H locs hw => ?_)
        refine lv_iconst (v := iI 0) hx hb dX4_readWord_74 rfl ?_
        refine lv_istore_n (lv' := [(3, .int (iI 0)), (0, .ref a0), (1, .ref a1), (2, .int x2)]) hx hb dX4_readWord_75 rfl hl (by decide) rfl (fun ls hl => ?_)
        obtain ⟨o22, ho22, ho17⟩ := ob_s ho17
        have hJ22 : ∀ (H : Heap) (locs : List Loc) (ls : Array Slot), ep_W G ep_cl o22 s H locs → lv_has ls 4 [(0, .ref a0)] → wX4_readWord p l e s m below meth c G h a0 a1 x2 res 0 0 H locs (F0 m 112 ls []) := by
          intro H locs ls hw hl
          obtain rfl := Option.some.inj ho17
          exact hJ17 _ _ _ hw (lv_sub hl [0] rfl)
        have hL22 : ∀ (fu : Nat) (h : Hp) (x3 : Int32), fX4_readWord_L76 a0 a1 x2 fu h x3 = some o22 → ∀ (H : Heap) (locs : List Loc) (ls : Array Slot), ep_W G ep_cl h s H locs → lv_has ls 4 [(0, .ref a0), (1, .ref a1), (2, .int x2), (3, .int x3)] → wX4_readWord p l e s m below meth c G h a0 a1 x2 res 0 0 H locs (F0 m 76 ls []) := by
          intro fu
          induction fu with
          | zero => intro h x3 ho22; cases ho22
          | succ fu ih22 =>
            intro h x3 ho22 H locs ls hw hl
            rw [fX4_readWord_L76] at ho22
            refine lv_iload_n hx hb dX4_readWord_76 rfl (lv_at hl 3 rfl) ?_
            refine lv_aload_n hx hb dX4_readWord_77 rfl (lv_at hl 0 rfl) ?_
            obtain ⟨v23, ev23, ho22⟩ := ob_s ho22
            refine ep_get (C := RX4) (T := TX4) (N := 32) (ci := 4) hx hb hts in_X4 hown hK hw rfl 15 (by decide) q1154 (gI_f ev23) dX4_readWord_78 ?_
            refine lv_aload_n hx hb dX4_readWord_81 rfl (lv_at hl 0 rfl) ?_
            obtain ⟨v24, ev24, ho22⟩ := ob_s ho22
            refine ep_get (C := RX4) (T := TX4) (N := 32) (ci := 4) hx hb hts in_X4 hown hK hw rfl 16 (by decide) q1155 (gI_f ev24) dX4_readWord_82 ?_
            refine lv_isub hx hb dX4_readWord_85 ?_
            refine lv_icmp_ge (tgt := 112) hx hb dX4_readWord_86 (by decide) (fun c25 => ?_) (fun c25 => ?_)
            · have ho22 := oi_t ho22 c25
              obtain rfl := Option.some.inj ho22
              exact hJ22 _ _ _ hw (lv_sub hl [0] rfl)
            · have ho22 := oi_f ho22 c25
              refine lv_aload_n hx hb dX4_readWord_89 rfl (lv_at hl 1 rfl) ?_
              refine lv_iload_n hx hb dX4_readWord_90 rfl (lv_at hl 2 rfl) ?_
              refine lv_iconst (v := iI 1) hx hb dX4_readWord_91 rfl ?_
              refine lv_iadd hx hb dX4_readWord_92 ?_
              refine lv_iload_n hx hb dX4_readWord_93 rfl (lv_at hl 3 rfl) ?_
              refine lv_iadd hx hb dX4_readWord_94 ?_
              refine lv_aload_n hx hb dX4_readWord_95 rfl (lv_at hl 0 rfl) ?_
              refine lv_aload_n hx hb dX4_readWord_96 rfl (lv_at hl 0 rfl) ?_
              obtain ⟨v26, ev26, ho22⟩ := ob_s ho22
              refine ep_get (C := RX4) (T := TX4) (N := 32) (ci := 4) hx hb hts in_X4 hown hK hw rfl 16 (by decide) q1155 (gI_f ev26) dX4_readWord_97 ?_
              refine lv_iload_n hx hb dX4_readWord_100 rfl (lv_at hl 3 rfl) ?_
              refine lv_iadd hx hb dX4_readWord_101 ?_
              obtain ⟨v27, ev27, ho22⟩ := ob_s ho22
              refine ep_calli0 (va_runV (As := [.int (v26 + x3)]) (rest := [.int ((x2 + (iI 1)) + x3), .ref a1]) ⟨hx, hb, hml, hown, hts⟩ (metX4_byteAt l G h a0 (v26 + x3) ev27) (cwV 1 hts (lw_V q1257 q1259 qs37 q89 q1260) rfl rfl rfl hdX4_byteAt ⟨Nat.le_of_ble_eq_true rfl, Nat.le_of_ble_eq_true rfl⟩) (ep_preV hK hZ hw rfl (ckX4_byteAt ev27)) rfl rfl hl.1 rfl (lv_room (Nat.le_of_ble_eq_true rfl)) dX4_readWord_102 ⟨Nat.le_of_ble_eq_true rfl, Nat.le_of_ble_eq_true rfl⟩) hw (fun H locs hw => ?_)
              obtain ⟨h28, eh28, ho22⟩ := ob_s ho22
              refine ep_iast hx hb hK hw eh28 dX4_readWord_105 (fun H locs hw => ?_)
              refine lv_iinc (v := (x3 + iI 1)) (lv' := [(3, .int (x3 + iI 1)), (0, .ref a0), (1, .ref a1), (2, .int x2)]) hx hb dX4_readWord_106 hl (k := 3) rfl rfl (by decide) rfl (fun ls hl => ?_)
              refine lv_goto (tgt := 76) hx hb dX4_readWord_109 (by decide) ?_
              exact ih22 _ _ ho22 _ _ _ hw (lv_sub hl [1, 2, 3, 0] rfl)
        exact hL22 FUEL _ _ ho22 _ _ _ hw (lv_sub hl [1, 2, 3, 0] rfl)
    refine lv_if_ne (tgt := 55) hx hb dX4_readWord_29 (by decide) (fun c10 => ?_) (fun c10 => ?_)
    · have ho9 := oi_f ho9 c10
      obtain rfl := Option.some.inj ho9
      exact hJ9 _ _ _ hw (lv_sub hl [0, 1, 2] rfl)
    · have ho9 := oi_t ho9 c10
      refine lv_aload_n hx hb dX4_readWord_32 rfl (lv_at hl 0 rfl) ?_
      refine lv_aload_n hx hb dX4_readWord_33 rfl (lv_at hl 0 rfl) ?_
      obtain ⟨v11, ev11, ho9⟩ := ob_s ho9
      refine ep_get (C := RX4) (T := TX4) (N := 32) (ci := 4) hx hb hts in_X4 hown hK hw rfl 15 (by decide) q1154 (gI_f ev11) dX4_readWord_34 ?_
      refine lv_aload_n hx hb dX4_readWord_37 rfl (lv_at hl 0 rfl) ?_
      obtain ⟨v12, ev12, ho9⟩ := ob_s ho9
      refine ep_get (C := RX4) (T := TX4) (N := 32) (ci := 4) hx hb hts in_X4 hown hK hw rfl 16 (by decide) q1155 (gI_f ev12) dX4_readWord_38 ?_
      refine lv_isub hx hb dX4_readWord_41 ?_
      refine lv_iconst (v := iI 5) hx hb dX4_readWord_42 rfl ?_
      have hJ13 : wX4_readWord p l e s m below meth c G h a0 a1 x2 res 0 0 H locs (F0 m 51 ls [.int (if (iI 5) < (v11 - v12) then iI 0 else iI 1), .ref a0]) := by
        refine lv_iconst (v := iI 3) hx hb dX4_readWord_51 rfl ?_
        obtain ⟨o15, eo15, ho9⟩ := ob_s ho9
        refine ep_callv0 (va_runV (As := [.int (if (iI 5) < (v11 - v12) then iI 0 else iI 1), .int (iI 3)]) (rest := []) ⟨hx, hb, hml, hown, hts⟩ (metX4_needs l G o2 a0 (if (iI 5) < (v11 - v12) then iI 0 else iI 1) (iI 3) eo15) (cwV 2 hts (lw_V q1265 q1267 qs38 q89 q1268) rfl rfl rfl hdX4_needs ⟨Nat.le_of_ble_eq_true rfl, Nat.le_of_ble_eq_true rfl⟩) (ep_preV hK hZ hw rfl (ckX4_needs eo15)) rfl rfl hl.1 rfl (lv_room (Nat.le_of_ble_eq_true rfl)) dX4_readWord_52 ⟨Nat.le_of_ble_eq_true rfl, Nat.le_of_ble_eq_true rfl⟩) hw (fun H locs hw => ?_)
        obtain rfl := Option.some.inj ho9
        exact hJ9 _ _ _ hw (lv_sub hl [0, 1, 2] rfl)
      refine lv_icmp_gt (tgt := 50) hx hb dX4_readWord_43 (by decide) (fun c14 => ?_) (fun c14 => ?_)
      · refine lv_iconst (v := iI 0) hx hb dX4_readWord_50 rfl ?_
        rw [if_pos c14] at hJ13
        exact hJ13
      · refine lv_iconst (v := iI 1) hx hb dX4_readWord_46 rfl ?_
        refine lv_goto (tgt := 51) hx hb dX4_readWord_47 (by decide) ?_
        rw [if_neg c14] at hJ13
        exact hJ13
  refine lv_if_ne (tgt := 25) hx hb dX4_readWord_4 (by decide) (fun c3 => ?_) (fun c3 => ?_)
  · have ho2 := oi_f ho2 c3
    obtain rfl := Option.some.inj ho2
    exact hJ2 _ _ _ hw (lv_sub hl [0, 1, 2] rfl)
  · have ho2 := oi_t ho2 c3
    refine lv_aload_n hx hb dX4_readWord_7 rfl (lv_at hl 0 rfl) ?_
    refine lv_aload_n hx hb dX4_readWord_8 rfl (lv_at hl 0 rfl) ?_
    obtain ⟨v4, ev4, ho2⟩ := ob_s ho2
    refine ep_get (C := RX4) (T := TX4) (N := 32) (ci := 4) hx hb hts in_X4 hown hK hw rfl 17 (by decide) q1156 (gI_f ev4) dX4_readWord_9 ?_
    refine lv_iconst (v := iI 1) hx hb dX4_readWord_12 rfl ?_
    have hJ5 : wX4_readWord p l e s m below meth c G h a0 a1 x2 res 0 0 s.heap ([]) (F0 m 21 ls [.int (if v4 = (iI 1) then iI 1 else iI 0), .ref a0]) := by
      refine lv_iconst (v := iI 2) hx hb dX4_readWord_21 rfl ?_
      obtain ⟨o7, eo7, ho2⟩ := ob_s ho2
      refine ep_callv0 (va_runV (As := [.int (if v4 = (iI 1) then iI 1 else iI 0), .int (iI 2)]) (rest := []) ⟨hx, hb, hml, hown, hts⟩ (metX4_needs l G h a0 (if v4 = (iI 1) then iI 1 else iI 0) (iI 2) eo7) (cwV 2 hts (lw_V q1265 q1267 qs38 q89 q1268) rfl rfl rfl hdX4_needs ⟨Nat.le_of_ble_eq_true rfl, Nat.le_of_ble_eq_true rfl⟩) (ep_preV hK hZ hw rfl (ckX4_needs eo7)) rfl rfl hl.1 rfl (lv_room (Nat.le_of_ble_eq_true rfl)) dX4_readWord_22 ⟨Nat.le_of_ble_eq_true rfl, Nat.le_of_ble_eq_true rfl⟩) hw (fun H locs hw => ?_)
      obtain rfl := Option.some.inj ho2
      exact hJ2 _ _ _ hw (lv_sub hl [0, 1, 2] rfl)
    refine lv_icmp_ne (tgt := 20) hx hb dX4_readWord_13 (by decide) (fun c6 => ?_) (fun c6 => ?_)
    · refine lv_iconst (v := iI 0) hx hb dX4_readWord_20 rfl ?_
      rw [if_neg c6] at hJ5
      exact hJ5
    · refine lv_iconst (v := iI 1) hx hb dX4_readWord_16 rfl ?_
      refine lv_goto (tgt := 21) hx hb dX4_readWord_17 (by decide) ?_
      rw [if_pos c6] at hJ5
      exact hJ5
theorem hdX4_readLineOf : yX4_readLineOf.cls = RX4 ∧ yX4_readLineOf.cls ≠ "java/lang/invoke/MethodHandle" ∧ yX4_readLineOf.cls ≠ "java/lang/invoke/VarHandle" ∧ (parseMethodDescriptor yX4_readLineOf.desc).map (fun d => d.parameters.length) = some 1 := by decide +kernel
theorem ckX4_readLineOf {h : Hp} {a0 : Nat} {x1 : Int32} {res : Hp} (hf : fX4_readLineOf h a0 x1 = some res) : ep_cls h a0 = some 4 := by
  unfold fX4_readLineOf at hf
  exact (oi_c hf).1
abbrev wX4_readLineOf (p : Program) (l : Launch) (e : Env) (s : State) (m : MethodId) (below : List Frame) (meth : Method) (c : Code) (G : EG) (h : Hp) (a0 : Nat) (x1 : Int32) (res : Hp) (k9 n9 : Nat) (H : Heap) (locs : List Loc) (g : JFrame) : Prop := W p l e (headSpec (ws_ yX4_readLineOf cX4_readLineOf 3 none) ({ frames := 3, cells := 0, slots := 0, locals := 69 } : Room)).room s m ([.ref a0, .int x1] : List Value).toArray below meth c H locs k9 n9 (MQ below (ep_Qv G ep_cl res) ([.ref a0, .int x1] : List Value).toArray s 0 0 (ep_A G)) g
set_option maxHeartbeats 4000000 in
theorem metX4_readLineOf (l : Launch) (G : EG) (h : Hp) (a0 : Nat) (x1 : Int32) {res : Hp} (hf : fX4_readLineOf h a0 x1 = some res) : Met l yX4_readLineOf (ws_ yX4_readLineOf cX4_readLineOf 3 none) ({ frames := 3, cells := 0, slots := 0, locals := 69 } : Room) (ep_Pc G ep_cl h [.ref a0, .int x1]) (ep_Qv G ep_cl res) 0 0 (ep_A G) := by
  refine Met.ofW (cc := cX4_readLineOf) (maxL := 3) (ret := none) (by decide) rfl ?_
  intro p e s m args below meth c s₁ B hml hv
  obtain ⟨rfl, hR, hK, hZ⟩ := hv
  have hx := B.exec
  have hb := B.bytes
  have hr := B.returns
  have hlocks := B.notSynchronized
  have hts := atoms_spec (ws := (ws_ yX4_readLineOf cX4_readLineOf 3 none)) B.pre
  have hts : ∀ w ∈ lw_all, w.before _ s = true := fun w h => hts w (List.mem_cons_of_mem _ h)
  have hown : s.vm.findClass RX4 = some m.cls := findClass_of_methodNamed B.named
  have hw : ep_W G ep_cl h s s.heap [] := ⟨hR, va_S.rf⟩
  have hl := lv_entry ([.ref a0, .int x1]) (n := 3) (Nat.le_of_ble_eq_true rfl)
  rw [lg_entry_eq]
  generalize (lg_sl ([.ref a0, .int x1]) ++ List.replicate (3 - (lg_sl ([.ref a0, .int x1])).length) Slot.unset).toArray = ls at hl ⊢
  have hl : lv_has ls 3 [(0, .ref a0), (1, .int x1)] := hl
  unfold fX4_readLineOf at hf
  have hf := (oi_c hf).2
  show wX4_readLineOf p l e s m below meth c G h a0 x1 res 0 0 s.heap ([]) (F0 m 0 ls [])
  refine lv_iload_n hx hb dX4_readLineOf_0 rfl (lv_at hl 1 rfl) ?_
  refine lv_iconst (v := iI 4) hx hb dX4_readLineOf_1 rfl ?_
  refine lv_icmp_ne (tgt := 55) hx hb dX4_readLineOf_2 (by decide) (fun c1 => ?_) (fun c1 => ?_)
  · have hf := oi_f hf c1
    refine lv_iload_n hx hb dX4_readLineOf_55 rfl (lv_at hl 1 rfl) ?_
    refine lv_iconst (v := iI 5) hx hb dX4_readLineOf_56 rfl ?_
    refine lv_icmp_ne (tgt := 124) hx hb dX4_readLineOf_57 (by decide) (fun c2 => ?_) (fun c2 => ?_)
    · have hf := oi_f hf c2
      refine lv_bipush (v := iI 8) hx hb dX4_readLineOf_124 (by decide) ?_
      refine lv_bipush (v := iI 9) hx hb dX4_readLineOf_126 (by decide) ?_
      refine lv_aload_n hx hb dX4_readLineOf_128 rfl (lv_at hl 0 rfl) ?_
      obtain ⟨v3, ev3, hf⟩ := ob_s hf
      refine ep_get (C := RX4) (T := TX4) (N := 32) (ci := 4) hx hb hts in_X4 hown hK hw rfl 9 (by decide) q1148 (gI_f ev3) dX4_readLineOf_129 ?_
      refine lv_imul hx hb dX4_readLineOf_132 ?_
      refine lv_iadd hx hb dX4_readLineOf_133 ?_
      refine lv_istore_n (lv' := [(2, .int ((iI 8) + ((iI 9) * v3))), (0, .ref a0), (1, .int x1)]) hx hb dX4_readLineOf_134 rfl hl (by decide) rfl (fun ls hl => ?_)
      refine lv_aload_n hx hb dX4_readLineOf_135 rfl (lv_at hl 1 rfl) ?_
      obtain ⟨r4, er4, hf⟩ := ob_s hf
      refine ep_get (C := RX4) (T := TX4) (N := 32) (ci := 4) hx hb hts in_X4 hown hK hw rfl 7 (by decide) q1146 (gR_f er4) dX4_readLineOf_136 ?_
      refine lv_iload_n hx hb dX4_readLineOf_139 rfl (lv_at hl 0 rfl) ?_
      refine lv_iconst (v := iI 0) hx hb dX4_readLineOf_140 rfl ?_
      refine lv_iadd hx hb dX4_readLineOf_141 ?_
      refine lv_iload_n hx hb dX4_readLineOf_142 rfl (lv_at hl 2 rfl) ?_
      obtain ⟨h5, eh5, hf⟩ := ob_s hf
      refine ep_iast hx hb hK hw eh5 dX4_readLineOf_143 (fun H locs hw => ?_)
      refine lv_aload_n hx hb dX4_readLineOf_144 rfl (lv_at hl 1 rfl) ?_
      refine lv_aload_n hx hb dX4_readLineOf_145 rfl (lv_at hl 1 rfl) ?_
      obtain ⟨r6, er6, hf⟩ := ob_s hf
      refine ep_get (C := RX4) (T := TX4) (N := 32) (ci := 4) hx hb hts in_X4 hown hK hw rfl 7 (by decide) q1146 (gR_f er6) dX4_readLineOf_146 ?_
      refine lv_iload_n hx hb dX4_readLineOf_149 rfl (lv_at hl 0 rfl) ?_
      refine lv_iconst (v := iI 3) hx hb dX4_readLineOf_150 rfl ?_
      refine lv_iadd hx hb dX4_readLineOf_151 ?_
      obtain ⟨o7, eo7, hf⟩ := ob_s hf
      refine ep_callv0 (va_runV (As := [.ref r6, .int (((iI 8) + ((iI 9) * v3)) + (iI 3))]) (rest := []) ⟨hx, hb, hml, hown, hts⟩ (metX4_readWord l G h5 a0 r6 (((iI 8) + ((iI 9) * v3)) + (iI 3)) eo7) (cwV 2 hts (lw_V q1300 q1302 qs46 q89 q1303) rfl rfl rfl hdX4_readWord ⟨Nat.le_of_ble_eq_true rfl, Nat.le_of_ble_eq_true rfl⟩) (ep_preV hK hZ hw rfl (ckX4_readWord eo7)) rfl rfl hl.1 rfl (lv_room (Nat.le_of_ble_eq_true rfl)) dX4_readLineOf_152 ⟨Nat.le_of_ble_eq_true rfl, Nat.le_of_ble_eq_true rfl⟩) hw (fun H locs hw => ?_)
      refine lv_aload_n hx hb dX4_readLineOf_155 rfl (lv_at hl 1 rfl) ?_
      obtain ⟨r8, er8, hf⟩ := ob_s hf
      refine ep_get (C := RX4) (T := TX4) (N := 32) (ci := 4) hx hb hts in_X4 hown hK hw rfl 7 (by decide) q1146 (gR_f er8) dX4_readLineOf_156 ?_
      refine lv_iload_n hx hb dX4_readLineOf_159 rfl (lv_at hl 0 rfl) ?_
      refine lv_iconst (v := iI 1) hx hb dX4_readLineOf_160 rfl ?_
      refine lv_iadd hx hb dX4_readLineOf_161 ?_
      refine lv_aload_n hx hb dX4_readLineOf_162 rfl (lv_at hl 1 rfl) ?_
      refine lv_iconst (v := iI 0) hx hb dX4_readLineOf_163 rfl ?_
      refine lv_bipush (v := iI 99) hx hb dX4_readLineOf_164 (by decide) ?_
      obtain ⟨o9, eo9, hf⟩ := ob_s hf
      refine ep_calli0 (va_runV (As := [.int (iI 0), .int (iI 99)]) (rest := [.int (((iI 8) + ((iI 9) * v3)) + (iI 1)), .ref r8]) ⟨hx, hb, hml, hown, hts⟩ (metX4_readNumber l G o7 a0 (iI 0) (iI 99) eo9) (cwV 2 hts (lw_V q1296 q1298 qs45 q89 q1299) rfl rfl rfl hdX4_readNumber ⟨Nat.le_of_ble_eq_true rfl, Nat.le_of_ble_eq_true rfl⟩) (ep_preV hK hZ hw rfl (ckX4_readNumber eo9)) rfl rfl hl.1 rfl (lv_room (Nat.le_of_ble_eq_true rfl)) dX4_readLineOf_166 ⟨Nat.le_of_ble_eq_true rfl, Nat.le_of_ble_eq_true rfl⟩) hw (fun H locs hw => ?_)
      obtain ⟨h10, eh10, hf⟩ := ob_s hf
      refine ep_iast hx hb hK hw eh10 dX4_readLineOf_169 (fun H locs hw => ?_)
      refine lv_aload_n hx hb dX4_readLineOf_170 rfl (lv_at hl 1 rfl) ?_
      obtain ⟨r11, er11, hf⟩ := ob_s hf
      refine ep_get (C := RX4) (T := TX4) (N := 32) (ci := 4) hx hb hts in_X4 hown hK hw rfl 7 (by decide) q1146 (gR_f er11) dX4_readLineOf_171 ?_
      refine lv_iload_n hx hb dX4_readLineOf_174 rfl (lv_at hl 0 rfl) ?_
      refine lv_iconst (v := iI 2) hx hb dX4_readLineOf_175 rfl ?_
      refine lv_iadd hx hb dX4_readLineOf_176 ?_
      refine lv_aload_n hx hb dX4_readLineOf_177 rfl (lv_at hl 1 rfl) ?_
      refine lv_iconst (v := iI 0) hx hb dX4_readLineOf_178 rfl ?_
      refine lv_iconst (v := iI 3) hx hb dX4_readLineOf_179 rfl ?_
      obtain ⟨o12, eo12, hf⟩ := ob_s hf
      refine ep_calli0 (va_runV (As := [.int (iI 0), .int (iI 3)]) (rest := [.int (((iI 8) + ((iI 9) * v3)) + (iI 2)), .ref r11]) ⟨hx, hb, hml, hown, hts⟩ (metX4_readNumber l G h10 a0 (iI 0) (iI 3) eo12) (cwV 2 hts (lw_V q1296 q1298 qs45 q89 q1299) rfl rfl rfl hdX4_readNumber ⟨Nat.le_of_ble_eq_true rfl, Nat.le_of_ble_eq_true rfl⟩) (ep_preV hK hZ hw rfl (ckX4_readNumber eo12)) rfl rfl hl.1 rfl (lv_room (Nat.le_of_ble_eq_true rfl)) dX4_readLineOf_180 ⟨Nat.le_of_ble_eq_true rfl, Nat.le_of_ble_eq_true rfl⟩) hw (fun H locs hw => ?_)
      obtain ⟨h13, eh13, hf⟩ := ob_s hf
      refine ep_iast hx hb hK hw eh13 dX4_readLineOf_183 (fun H locs hw => ?_)
      refine lv_aload_n hx hb dX4_readLineOf_184 rfl (lv_at hl 1 rfl) ?_
      refine lv_aload_n hx hb dX4_readLineOf_185 rfl (lv_at hl 1 rfl) ?_
      obtain ⟨v14, ev14, hf⟩ := ob_s hf
      refine ep_get (C := RX4) (T := TX4) (N := 32) (ci := 4) hx hb hts in_X4 hown hK hw rfl 19 (by decide) q1158 (gI_f ev14) dX4_readLineOf_186 ?_
      obtain ⟨ox15, ho15, hk15⟩ := orL_s hf
      have hT15 : ∀ r, ox15 = .inl r → some r = some res := fun r eo => (by have e := orL_1 hk15 eo; exact e)
      have hJ15 : ∀ o15, ox15 = .inr o15 → ∀ (H : Heap) (locs : List Loc) (ls : Array Slot), ep_W G ep_cl h13 s H locs → lv_has ls 3 [(0, .ref a0)] → wX4_readLineOf p l e s m below meth c G h a0 x1 res 0 0 H locs (F0 m 218 ls [.ref a0]) := by
        intro o15 eo H locs ls hw hl
        have hf := orL_2 hk15 eo
        refine lv_aload_n hx hb dX4_readLineOf_218 rfl (lv_at hl 0 rfl) ?_
        obtain ⟨v26, ev26, hf⟩ := ob_s hf
        refine ep_get (C := RX4) (T := TX4) (N := 32) (ci := 4) hx hb hts in_X4 hown hK hw rfl 12 (by decide) q1151 (gI_f ev26) dX4_readLineOf_219 ?_
        obtain ⟨h27, eh27, hf⟩ := ob_s hf
        refine ep_put (C := RX4) (T := TX4) (N := 32) (ci := 4) hx hb hts in_X4 tyX4 tyX4_ok nmX4 hown hK hw rfl (by decide) 12 (by decide) q1151 rfl rfl rfl eh27 dX4_readLineOf_222 (fun H locs hw => ?_)
        refine lv_aload_n hx hb dX4_readLineOf_225 rfl (lv_at hl 0 rfl) ?_
        refine lv_dup hx hb dX4_readLineOf_226 rfl ?_
        obtain ⟨v28, ev28, hf⟩ := ob_s hf
        refine ep_get (C := RX4) (T := TX4) (N := 32) (ci := 4) hx hb hts in_X4 hown hK hw rfl 9 (by decide) q1148 (gI_f ev28) dX4_readLineOf_227 ?_
        refine lv_iconst (v := iI 1) hx hb dX4_readLineOf_230 rfl ?_
        refine lv_iadd hx hb dX4_readLineOf_231 ?_
        obtain ⟨h29, eh29, hf⟩ := ob_s hf
        refine ep_put (C := RX4) (T := TX4) (N := 32) (ci := 4) hx hb hts in_X4 tyX4 tyX4_ok nmX4 hown hK hw rfl (by decide) 9 (by decide) q1148 rfl rfl rfl eh29 dX4_readLineOf_232 (fun H locs hw => ?_)
        exact ep_retvW hx hb hr hlocks hw hf dX4_readLineOf_235
      refine lv_if_ne (tgt := 218) hx hb dX4_readLineOf_189 (by decide) (fun c16 => ?_) (fun c16 => ?_)
      · have ho15 := oi_f ho15 c16
        exact hJ15 _ (Option.some.inj ho15).symm _ _ _ hw (lv_sub hl [1] rfl)
      · have ho15 := oi_t ho15 c16
        refine lv_aload_n hx hb dX4_readLineOf_192 rfl (lv_at hl 1 rfl) ?_
        obtain ⟨r17, er17, ho15⟩ := ob_s ho15
        refine ep_get (C := RX4) (T := TX4) (N := 32) (ci := 4) hx hb hts in_X4 hown hK hw rfl 7 (by decide) q1146 (gR_f er17) dX4_readLineOf_193 ?_
        refine lv_iload_n hx hb dX4_readLineOf_196 rfl (lv_at hl 0 rfl) ?_
        refine lv_iconst (v := iI 2) hx hb dX4_readLineOf_197 rfl ?_
        refine lv_iadd hx hb dX4_readLineOf_198 ?_
        obtain ⟨v18, ev18, ho15⟩ := ob_s ho15
        refine ep_iald hx hb hK hw ev18 dX4_readLineOf_199 ?_
        refine lv_aload_n hx hb dX4_readLineOf_200 rfl (lv_at hl 1 rfl) ?_
        obtain ⟨v19, ev19, ho15⟩ := ob_s ho15
        refine ep_get (C := RX4) (T := TX4) (N := 32) (ci := 4) hx hb hts in_X4 hown hK hw rfl 12 (by decide) q1151 (gI_f ev19) dX4_readLineOf_201 ?_
        refine lv_icmp_le (tgt := 218) hx hb dX4_readLineOf_204 (by decide) (fun c20 => ?_) (fun c20 => ?_)
        · have ho15 := oi_t ho15 c20
          exact hJ15 _ (Option.some.inj ho15).symm _ _ _ hw (lv_sub hl [1] rfl)
        · have ho15 := oi_f ho15 c20
          refine lv_aload_n hx hb dX4_readLineOf_207 rfl (lv_at hl 1 rfl) ?_
          obtain ⟨r21, er21, ho15⟩ := ob_s ho15
          refine ep_get (C := RX4) (T := TX4) (N := 32) (ci := 4) hx hb hts in_X4 hown hK hw rfl 7 (by decide) q1146 (gR_f er21) dX4_readLineOf_208 ?_
          refine lv_iload_n hx hb dX4_readLineOf_211 rfl (lv_at hl 0 rfl) ?_
          refine lv_iconst (v := iI 2) hx hb dX4_readLineOf_212 rfl ?_
          refine lv_iadd hx hb dX4_readLineOf_213 ?_
          obtain ⟨v22, ev22, ho15⟩ := ob_s ho15
          refine ep_iald hx hb hK hw ev22 dX4_readLineOf_214 ?_
          refine lv_goto (tgt := 222) hx hb dX4_readLineOf_215 (by decide) ?_
          obtain ⟨h23, eh23, ho15⟩ := ob_s ho15
          refine ep_put (C := RX4) (T := TX4) (N := 32) (ci := 4) hx hb hts in_X4 tyX4 tyX4_ok nmX4 hown hK hw rfl (by decide) 12 (by decide) q1151 rfl rfl rfl eh23 dX4_readLineOf_222 (fun H locs hw => ?_)
          refine lv_aload_n hx hb dX4_readLineOf_225 rfl (lv_at hl 1 rfl) ?_
          refine lv_dup hx hb dX4_readLineOf_226 rfl ?_
          obtain ⟨v24, ev24, ho15⟩ := ob_s ho15
          refine ep_get (C := RX4) (T := TX4) (N := 32) (ci := 4) hx hb hts in_X4 hown hK hw rfl 9 (by decide) q1148 (gI_f ev24) dX4_readLineOf_227 ?_
          refine lv_iconst (v := iI 1) hx hb dX4_readLineOf_230 rfl ?_
          refine lv_iadd hx hb dX4_readLineOf_231 ?_
          obtain ⟨h25, eh25, ho15⟩ := ob_s ho15
          refine ep_put (C := RX4) (T := TX4) (N := 32) (ci := 4) hx hb hts in_X4 tyX4 tyX4_ok nmX4 hown hK hw rfl (by decide) 9 (by decide) q1148 rfl rfl rfl eh25 dX4_readLineOf_232 (fun H locs hw => ?_)
          exact ep_retvW hx hb hr hlocks hw (hT15 _ (Option.some.inj ho15).symm) dX4_readLineOf_235
    · have hf := oi_t hf c2
      refine lv_bipush (v := iI 8) hx hb dX4_readLineOf_60 (by decide) ?_
      refine lv_aload_n hx hb dX4_readLineOf_62 rfl (lv_at hl 0 rfl) ?_
      obtain ⟨v30, ev30, hf⟩ := ob_s hf
      refine ep_get (C := RX4) (T := TX4) (N := 32) (ci := 4) hx hb hts in_X4 hown hK hw rfl 10 (by decide) q1149 (gI_f ev30) dX4_readLineOf_63 ?_
      refine lv_imul hx hb dX4_readLineOf_66 ?_
      refine lv_istore_n (lv' := [(2, .int ((iI 8) * v30)), (0, .ref a0), (1, .int x1)]) hx hb dX4_readLineOf_67 rfl hl (by decide) rfl (fun ls hl => ?_)
      refine lv_aload_n hx hb dX4_readLineOf_68 rfl (lv_at hl 1 rfl) ?_
      refine lv_aload_n hx hb dX4_readLineOf_69 rfl (lv_at hl 1 rfl) ?_
      obtain ⟨r31, er31, hf⟩ := ob_s hf
      refine ep_get (C := RX4) (T := TX4) (N := 32) (ci := 4) hx hb hts in_X4 hown hK hw rfl 11 (by decide) q1150 (gR_f er31) dX4_readLineOf_70 ?_
      refine lv_iload_n hx hb dX4_readLineOf_73 rfl (lv_at hl 0 rfl) ?_
      refine lv_iconst (v := iI 0) hx hb dX4_readLineOf_74 rfl ?_
      refine lv_iadd hx hb dX4_readLineOf_75 ?_
      obtain ⟨o32, eo32, hf⟩ := ob_s hf
      refine ep_callv0 (va_runV (As := [.ref r31, .int (((iI 8) * v30) + (iI 0))]) (rest := []) ⟨hx, hb, hml, hown, hts⟩ (metX4_readWord l G h a0 r31 (((iI 8) * v30) + (iI 0)) eo32) (cwV 2 hts (lw_V q1300 q1302 qs46 q89 q1303) rfl rfl rfl hdX4_readWord ⟨Nat.le_of_ble_eq_true rfl, Nat.le_of_ble_eq_true rfl⟩) (ep_preV hK hZ hw rfl (ckX4_readWord eo32)) rfl rfl hl.1 rfl (lv_room (Nat.le_of_ble_eq_true rfl)) dX4_readLineOf_76 ⟨Nat.le_of_ble_eq_true rfl, Nat.le_of_ble_eq_true rfl⟩) hw (fun H locs hw => ?_)
      refine lv_aload_n hx hb dX4_readLineOf_79 rfl (lv_at hl 1 rfl) ?_
      obtain ⟨r33, er33, hf⟩ := ob_s hf
      refine ep_get (C := RX4) (T := TX4) (N := 32) (ci := 4) hx hb hts in_X4 hown hK hw rfl 11 (by decide) q1150 (gR_f er33) dX4_readLineOf_80 ?_
      refine lv_iload_n hx hb dX4_readLineOf_83 rfl (lv_at hl 0 rfl) ?_
      refine lv_bipush (v := iI 6) hx hb dX4_readLineOf_84 (by decide) ?_
      refine lv_iadd hx hb dX4_readLineOf_86 ?_
      refine lv_aload_n hx hb dX4_readLineOf_87 rfl (lv_at hl 1 rfl) ?_
      refine lv_iconst (v := iI 1) hx hb dX4_readLineOf_88 rfl ?_
      refine lv_bipush (v := iI 9) hx hb dX4_readLineOf_89 (by decide) ?_
      obtain ⟨o34, eo34, hf⟩ := ob_s hf
      refine ep_calli0 (va_runV (As := [.int (iI 1), .int (iI 9)]) (rest := [.int (((iI 8) * v30) + (iI 6)), .ref r33]) ⟨hx, hb, hml, hown, hts⟩ (metX4_readNumber l G o32 a0 (iI 1) (iI 9) eo34) (cwV 2 hts (lw_V q1296 q1298 qs45 q89 q1299) rfl rfl rfl hdX4_readNumber ⟨Nat.le_of_ble_eq_true rfl, Nat.le_of_ble_eq_true rfl⟩) (ep_preV hK hZ hw rfl (ckX4_readNumber eo34)) rfl rfl hl.1 rfl (lv_room (Nat.le_of_ble_eq_true rfl)) dX4_readLineOf_91 ⟨Nat.le_of_ble_eq_true rfl, Nat.le_of_ble_eq_true rfl⟩) hw (fun H locs hw => ?_)
      obtain ⟨h35, eh35, hf⟩ := ob_s hf
      refine ep_iast hx hb hK hw eh35 dX4_readLineOf_94 (fun H locs hw => ?_)
      refine lv_aload_n hx hb dX4_readLineOf_95 rfl (lv_at hl 1 rfl) ?_
      obtain ⟨r36, er36, hf⟩ := ob_s hf
      refine ep_get (C := RX4) (T := TX4) (N := 32) (ci := 4) hx hb hts in_X4 hown hK hw rfl 11 (by decide) q1150 (gR_f er36) dX4_readLineOf_96 ?_
      refine lv_iload_n hx hb dX4_readLineOf_99 rfl (lv_at hl 0 rfl) ?_
      refine lv_bipush (v := iI 7) hx hb dX4_readLineOf_100 (by decide) ?_
      refine lv_iadd hx hb dX4_readLineOf_102 ?_
      refine lv_aload_n hx hb dX4_readLineOf_103 rfl (lv_at hl 1 rfl) ?_
      refine lv_iconst (v := iI 0) hx hb dX4_readLineOf_104 rfl ?_
      refine lv_bipush (v := iI 9) hx hb dX4_readLineOf_105 (by decide) ?_
      obtain ⟨o37, eo37, hf⟩ := ob_s hf
      refine ep_calli0 (va_runV (As := [.int (iI 0), .int (iI 9)]) (rest := [.int (((iI 8) * v30) + (iI 7)), .ref r36]) ⟨hx, hb, hml, hown, hts⟩ (metX4_readNumber l G h35 a0 (iI 0) (iI 9) eo37) (cwV 2 hts (lw_V q1296 q1298 qs45 q89 q1299) rfl rfl rfl hdX4_readNumber ⟨Nat.le_of_ble_eq_true rfl, Nat.le_of_ble_eq_true rfl⟩) (ep_preV hK hZ hw rfl (ckX4_readNumber eo37)) rfl rfl hl.1 rfl (lv_room (Nat.le_of_ble_eq_true rfl)) dX4_readLineOf_107 ⟨Nat.le_of_ble_eq_true rfl, Nat.le_of_ble_eq_true rfl⟩) hw (fun H locs hw => ?_)
      obtain ⟨h38, eh38, hf⟩ := ob_s hf
      refine ep_iast hx hb hK hw eh38 dX4_readLineOf_110 (fun H locs hw => ?_)
      refine lv_aload_n hx hb dX4_readLineOf_111 rfl (lv_at hl 1 rfl) ?_
      refine lv_dup hx hb dX4_readLineOf_112 rfl ?_
      obtain ⟨v39, ev39, hf⟩ := ob_s hf
      refine ep_get (C := RX4) (T := TX4) (N := 32) (ci := 4) hx hb hts in_X4 hown hK hw rfl 10 (by decide) q1149 (gI_f ev39) dX4_readLineOf_113 ?_
      refine lv_iconst (v := iI 1) hx hb dX4_readLineOf_116 rfl ?_
      refine lv_iadd hx hb dX4_readLineOf_117 ?_
      obtain ⟨h40, eh40, hf⟩ := ob_s hf
      refine ep_put (C := RX4) (T := TX4) (N := 32) (ci := 4) hx hb hts in_X4 tyX4 tyX4_ok nmX4 hown hK hw rfl (by decide) 10 (by decide) q1149 rfl rfl rfl eh40 dX4_readLineOf_118 (fun H locs hw => ?_)
      refine lv_goto (tgt := 235) hx hb dX4_readLineOf_121 (by decide) ?_
      exact ep_retvW hx hb hr hlocks hw hf dX4_readLineOf_235
  · have hf := oi_t hf c1
    refine lv_aload_n hx hb dX4_readLineOf_5 rfl (lv_at hl 0 rfl) ?_
    obtain ⟨r41, er41, hf⟩ := ob_s hf
    refine ep_get (C := RX4) (T := TX4) (N := 32) (ci := 4) hx hb hts in_X4 hown hK hw rfl 7 (by decide) q1146 (gR_f er41) dX4_readLineOf_6 ?_
    refine lv_iconst (v := iI 2) hx hb dX4_readLineOf_9 rfl ?_
    refine lv_aload_n hx hb dX4_readLineOf_10 rfl (lv_at hl 0 rfl) ?_
    obtain ⟨v42, ev42, hf⟩ := ob_s hf
    refine ep_get (C := RX4) (T := TX4) (N := 32) (ci := 4) hx hb hts in_X4 hown hK hw rfl 8 (by decide) q1147 (gI_f ev42) dX4_readLineOf_11 ?_
    refine lv_imul hx hb dX4_readLineOf_14 ?_
    refine lv_iconst (v := iI 1) hx hb dX4_readLineOf_15 rfl ?_
    refine lv_iadd hx hb dX4_readLineOf_16 ?_
    refine lv_aload_n hx hb dX4_readLineOf_17 rfl (lv_at hl 0 rfl) ?_
    obtain ⟨o43, eo43, hf⟩ := ob_s hf
    refine ep_calli0 (va_runV (As := []) (rest := [.int (((iI 2) * v42) + (iI 1)), .ref r41]) ⟨hx, hb, hml, hown, hts⟩ (metX4_readVowel l G h a0 eo43) (cwV 0 hts (lw_V q1289 q1291 qs44 q89 q1292) rfl rfl rfl hdX4_readVowel ⟨Nat.le_of_ble_eq_true rfl, Nat.le_of_ble_eq_true rfl⟩) (ep_preV hK hZ hw rfl (ckX4_readVowel eo43)) rfl rfl hl.1 rfl (lv_room (Nat.le_of_ble_eq_true rfl)) dX4_readLineOf_18 ⟨Nat.le_of_ble_eq_true rfl, Nat.le_of_ble_eq_true rfl⟩) hw (fun H locs hw => ?_)
    obtain ⟨h44, eh44, hf⟩ := ob_s hf
    refine ep_iast hx hb hK hw eh44 dX4_readLineOf_21 (fun H locs hw => ?_)
    refine lv_aload_n hx hb dX4_readLineOf_22 rfl (lv_at hl 0 rfl) ?_
    obtain ⟨r45, er45, hf⟩ := ob_s hf
    refine ep_get (C := RX4) (T := TX4) (N := 32) (ci := 4) hx hb hts in_X4 hown hK hw rfl 7 (by decide) q1146 (gR_f er45) dX4_readLineOf_23 ?_
    refine lv_iconst (v := iI 2) hx hb dX4_readLineOf_26 rfl ?_
    refine lv_aload_n hx hb dX4_readLineOf_27 rfl (lv_at hl 0 rfl) ?_
    obtain ⟨v46, ev46, hf⟩ := ob_s hf
    refine ep_get (C := RX4) (T := TX4) (N := 32) (ci := 4) hx hb hts in_X4 hown hK hw rfl 8 (by decide) q1147 (gI_f ev46) dX4_readLineOf_28 ?_
    refine lv_imul hx hb dX4_readLineOf_31 ?_
    refine lv_iconst (v := iI 0) hx hb dX4_readLineOf_32 rfl ?_
    refine lv_iadd hx hb dX4_readLineOf_33 ?_
    refine lv_aload_n hx hb dX4_readLineOf_34 rfl (lv_at hl 0 rfl) ?_
    refine lv_iconst (v := iI 1) hx hb dX4_readLineOf_35 rfl ?_
    refine lv_bipush (v := iI 9) hx hb dX4_readLineOf_36 (by decide) ?_
    obtain ⟨o47, eo47, hf⟩ := ob_s hf
    refine ep_calli0 (va_runV (As := [.int (iI 1), .int (iI 9)]) (rest := [.int (((iI 2) * v46) + (iI 0)), .ref r45]) ⟨hx, hb, hml, hown, hts⟩ (metX4_readNumber l G h44 a0 (iI 1) (iI 9) eo47) (cwV 2 hts (lw_V q1296 q1298 qs45 q89 q1299) rfl rfl rfl hdX4_readNumber ⟨Nat.le_of_ble_eq_true rfl, Nat.le_of_ble_eq_true rfl⟩) (ep_preV hK hZ hw rfl (ckX4_readNumber eo47)) rfl rfl hl.1 rfl (lv_room (Nat.le_of_ble_eq_true rfl)) dX4_readLineOf_38 ⟨Nat.le_of_ble_eq_true rfl, Nat.le_of_ble_eq_true rfl⟩) hw (fun H locs hw => ?_)
    obtain ⟨h48, eh48, hf⟩ := ob_s hf
    refine ep_iast hx hb hK hw eh48 dX4_readLineOf_41 (fun H locs hw => ?_)
    refine lv_aload_n hx hb dX4_readLineOf_42 rfl (lv_at hl 0 rfl) ?_
    refine lv_dup hx hb dX4_readLineOf_43 rfl ?_
    obtain ⟨v49, ev49, hf⟩ := ob_s hf
    refine ep_get (C := RX4) (T := TX4) (N := 32) (ci := 4) hx hb hts in_X4 hown hK hw rfl 8 (by decide) q1147 (gI_f ev49) dX4_readLineOf_44 ?_
    refine lv_iconst (v := iI 1) hx hb dX4_readLineOf_47 rfl ?_
    refine lv_iadd hx hb dX4_readLineOf_48 ?_
    obtain ⟨h50, eh50, hf⟩ := ob_s hf
    refine ep_put (C := RX4) (T := TX4) (N := 32) (ci := 4) hx hb hts in_X4 tyX4 tyX4_ok nmX4 hown hK hw rfl (by decide) 8 (by decide) q1147 rfl rfl rfl eh50 dX4_readLineOf_49 (fun H locs hw => ?_)
    refine lv_goto (tgt := 235) hx hb dX4_readLineOf_52 (by decide) ?_
    exact ep_retvW hx hb hr hlocks hw hf dX4_readLineOf_235
