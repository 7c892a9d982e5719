/-! walks (printed by gen.py) -/
set_option maxRecDepth 100000
theorem runV_returns {p : Program} {l : Launch} {e : Env} {R : Room} {s : State} {m : MethodId} {args : Array Value} {below : List Frame} {meth : Method} {c : Code} {H : Heap} {locs : List Loc} {cells slots nL : Nat} {cc : ByteArray} {G : EG} {h : Hp} {g : JFrame} {rest : List Value} {b x1 x2 v : Int32} (S : CallFix p m c cc nL s args lw_all RX1) (hK : ep_K G ep_cl s) (hZ : ep_Z G s s.heap) (hw : ep_W G ep_cl h s H locs) (ev : fV_returns b x1 x2 = some v) (hfr : 4 ≤ R.frames) (hlo : 120 ≤ R.locals) (hg : g.method = m) (hn : ([.int x1, .int x2] : List Value).length = 2) (hsize : g.locals.size = nL) (hstack : g.stack = ([.int x1, .int x2] : List Value).reverse ++ .ref (G.2.2.2 (2 + b.toNatClampNeg)) :: rest) (hW : 2 * g.monitorRoom + (rest.map fun v => v.category).sum ≤ 8) (hdg : decode cc g.pc = .ok (.invokevirtual 65, 3)) (hf : cells + 0 ≤ R.cells ∧ slots + 0 ≤ R.slots) : va_Run p l e R s m args below meth c H locs cells slots 0 0 g rest (ep_Qi G ep_cl h v (Value.ref (G.2.2.2 (2 + b.toNatClampNeg)) :: [.int x1, .int x2]).toArray) (ep_A G) := by
  unfold fV_returns at ev
  by_cases hc0 : b = iI 0
  · have ev := oi_t ev hc0
    have eb : b.toNatClampNeg = 0 := by rw [hc0]; decide
    rw [eb] at hstack ⊢
    exact ep_runUC (x := yX8_returns) (y := yX8_returns) (C := ep_bn 0) (owner := "EchoPens$Plain") (As := [.int x1, .int x2]) S (metX8_returns l G h 0 x1 x2 ev (by decide)) rfl rfl ⟨Nat.le_trans (by decide) hfr, Nat.le_trans (by decide) hlo⟩ q585 q588 q586 q604 q587 q586 q604 hs_returns (ep_preB (by decide) hK hZ hw) hg hn hsize hstack hW hdg hf
  · have ev := oi_f ev hc0
    by_cases hc1 : b = iI 1
    · have ev := oi_t ev hc1
      have eb : b.toNatClampNeg = 1 := by rw [hc1]; decide
      rw [eb] at hstack ⊢
      exact ep_runUC (x := yX8_returns) (y := yX10_returns) (C := ep_bn 1) (owner := "EchoPens$Plain") (As := [.int x1, .int x2]) S (metX10_returns l G h 1 x1 x2 ev (by decide)) rfl rfl ⟨Nat.le_trans (by decide) hfr, Nat.le_trans (by decide) hlo⟩ q585 q588 q586 q604 q594 q595 q596 hs_returns (ep_preB (by decide) hK hZ hw) hg hn hsize hstack hW hdg hf
    · have ev := oi_f ev hc1
      by_cases hc2 : b = iI 2
      · have ev := oi_t ev hc2
        have eb : b.toNatClampNeg = 2 := by rw [hc2]; decide
        rw [eb] at hstack ⊢
        exact ep_runUC (x := yX8_returns) (y := yX9_returns) (C := ep_bn 2) (owner := "EchoPens$Plain") (As := [.int x1, .int x2]) S (metX9_returns l G h 2 x1 x2 ev (by decide)) rfl rfl ⟨Nat.le_trans (by decide) hfr, Nat.le_trans (by decide) hlo⟩ q585 q588 q586 q604 q589 q590 q591 hs_returns (ep_preB (by decide) hK hZ hw) hg hn hsize hstack hW hdg hf
      · have ev := oi_f ev hc2
        by_cases hc3 : b = iI 3
        · have ev := oi_t ev hc3
          have eb : b.toNatClampNeg = 3 := by rw [hc3]; decide
          rw [eb] at hstack ⊢
          exact ep_runUC (x := yX8_returns) (y := yX11_returns) (C := ep_bn 3) (owner := "EchoPens$Plain") (As := [.int x1, .int x2]) S (metX11_returns l G h 3 x1 x2 ev (by decide)) rfl rfl ⟨Nat.le_trans (by decide) hfr, Nat.le_trans (by decide) hlo⟩ q585 q588 q586 q604 q599 q600 q601 hs_returns (ep_preB (by decide) hK hZ hw) hg hn hsize hstack hW hdg hf
        · have ev := oi_f ev hc3
          cases ev
theorem runV_gain {p : Program} {l : Launch} {e : Env} {R : Room} {s : State} {m : MethodId} {args : Array Value} {below : List Frame} {meth : Method} {c : Code} {H : Heap} {locs : List Loc} {cells slots nL : Nat} {cc : ByteArray} {G : EG} {h : Hp} {g : JFrame} {rest : List Value} {b x1 v : Int32} (S : CallFix p m c cc nL s args lw_all RX1) (hK : ep_K G ep_cl s) (hZ : ep_Z G s s.heap) (hw : ep_W G ep_cl h s H locs) (ev : fV_gain b x1 = some v) (hfr : 4 ≤ R.frames) (hlo : 120 ≤ R.locals) (hg : g.method = m) (hn : ([.int x1] : List Value).length = 1) (hsize : g.locals.size = nL) (hstack : g.stack = ([.int x1] : List Value).reverse ++ .ref (G.2.2.2 (2 + b.toNatClampNeg)) :: rest) (hW : 2 * g.monitorRoom + (rest.map fun v => v.category).sum ≤ 8) (hdg : decode cc g.pc = .ok (.invokevirtual 93, 3)) (hf : cells + 0 ≤ R.cells ∧ slots + 0 ≤ R.slots) : va_Run p l e R s m args below meth c H locs cells slots 0 0 g rest (ep_Qi G ep_cl h v (Value.ref (G.2.2.2 (2 + b.toNatClampNeg)) :: [.int x1]).toArray) (ep_A G) := by
  unfold fV_gain at ev
  by_cases hc0 : b = iI 0
  · have ev := oi_t ev hc0
    have eb : b.toNatClampNeg = 0 := by rw [hc0]; decide
    rw [eb] at hstack ⊢
    exact ep_runUC (x := yX8_gain) (y := yX8_gain) (C := ep_bn 0) (owner := "EchoPens$Plain") (As := [.int x1]) S (metX8_gain l G h 0 x1 ev (by decide)) rfl rfl ⟨Nat.le_trans (by decide) hfr, Nat.le_trans (by decide) hlo⟩ q702 q705 q703 q716 q704 q703 q716 hs_gain (ep_preB (by decide) hK hZ hw) hg hn hsize hstack hW hdg hf
  · have ev := oi_f ev hc0
    by_cases hc1 : b = iI 1
    · have ev := oi_t ev hc1
      have eb : b.toNatClampNeg = 1 := by rw [hc1]; decide
      rw [eb] at hstack ⊢
      exact ep_runUC (x := yX8_gain) (y := yX10_gain) (C := ep_bn 1) (owner := "EchoPens$Plain") (As := [.int x1]) S (metX10_gain l G h 1 x1 ev (by decide)) rfl rfl ⟨Nat.le_trans (by decide) hfr, Nat.le_trans (by decide) hlo⟩ q702 q705 q703 q716 q711 q712 q713 hs_gain (ep_preB (by decide) hK hZ hw) hg hn hsize hstack hW hdg hf
    · have ev := oi_f ev hc1
      by_cases hc2 : b = iI 2
      · have ev := oi_t ev hc2
        have eb : b.toNatClampNeg = 2 := by rw [hc2]; decide
        rw [eb] at hstack ⊢
        exact ep_runUC (x := yX8_gain) (y := yX9_gain) (C := ep_bn 2) (owner := "EchoPens$Plain") (As := [.int x1]) S (metX9_gain l G h 2 x1 ev (by decide)) rfl rfl ⟨Nat.le_trans (by decide) hfr, Nat.le_trans (by decide) hlo⟩ q702 q705 q703 q716 q706 q707 q708 hs_gain (ep_preB (by decide) hK hZ hw) hg hn hsize hstack hW hdg hf
      · have ev := oi_f ev hc2
        by_cases hc3 : b = iI 3
        · have ev := oi_t ev hc3
          have eb : b.toNatClampNeg = 3 := by rw [hc3]; decide
          rw [eb] at hstack ⊢
          exact ep_runUC (x := yX8_gain) (y := yX10_gain) (C := ep_bn 3) (owner := "EchoPens$Plain") (As := [.int x1]) S (metX10_gain l G h 3 x1 ev (by decide)) rfl rfl ⟨Nat.le_trans (by decide) hfr, Nat.le_trans (by decide) hlo⟩ q702 q705 q703 q716 q715 q712 q713 hs_gain (ep_preB (by decide) hK hZ hw) hg hn hsize hstack hW hdg hf
        · have ev := oi_f ev hc3
          cases ev
theorem runV_spoils {p : Program} {l : Launch} {e : Env} {R : Room} {s : State} {m : MethodId} {args : Array Value} {below : List Frame} {meth : Method} {c : Code} {H : Heap} {locs : List Loc} {cells slots nL : Nat} {cc : ByteArray} {G : EG} {h : Hp} {g : JFrame} {rest : List Value} {b v : Int32} (S : CallFix p m c cc nL s args lw_all RX1) (hK : ep_K G ep_cl s) (hZ : ep_Z G s s.heap) (hw : ep_W G ep_cl h s H locs) (ev : fV_spoils b = some v) (hfr : 4 ≤ R.frames) (hlo : 120 ≤ R.locals) (hg : g.method = m) (hn : ([] : List Value).length = 0) (hsize : g.locals.size = nL) (hstack : g.stack = ([] : List Value).reverse ++ .ref (G.2.2.2 (2 + b.toNatClampNeg)) :: rest) (hW : 2 * g.monitorRoom + (rest.map fun v => v.category).sum ≤ 8) (hdg : decode cc g.pc = .ok (.invokevirtual 81, 3)) (hf : cells + 0 ≤ R.cells ∧ slots + 0 ≤ R.slots) : va_Run p l e R s m args below meth c H locs cells slots 0 0 g rest (ep_Qi G ep_cl h v (Value.ref (G.2.2.2 (2 + b.toNatClampNeg)) :: []).toArray) (ep_A G) := by
  unfold fV_spoils at ev
  by_cases hc0 : b = iI 0
  · have ev := oi_t ev hc0
    have eb : b.toNatClampNeg = 0 := by rw [hc0]; decide
    rw [eb] at hstack ⊢
    exact ep_runUC (x := yX8_spoils) (y := yX8_spoils) (C := ep_bn 0) (owner := "EchoPens$Plain") (As := []) S (metX8_spoils l G h 0 ev (by decide)) rfl rfl ⟨Nat.le_trans (by decide) hfr, Nat.le_trans (by decide) hlo⟩ q683 q686 q684 q695 q685 q684 q695 hs_spoils (ep_preB (by decide) hK hZ hw) hg hn hsize hstack hW hdg hf
  · have ev := oi_f ev hc0
    by_cases hc1 : b = iI 1
    · have ev := oi_t ev hc1
      have eb : b.toNatClampNeg = 1 := by rw [hc1]; decide
      rw [eb] at hstack ⊢
      exact ep_runUC (x := yX8_spoils) (y := yX8_spoils) (C := ep_bn 1) (owner := "EchoPens$Plain") (As := []) S (metX8_spoils l G h 1 ev (by decide)) rfl rfl ⟨Nat.le_trans (by decide) hfr, Nat.le_trans (by decide) hlo⟩ q683 q686 q684 q695 q688 q684 q695 hs_spoils (ep_preB (by decide) hK hZ hw) hg hn hsize hstack hW hdg hf
    · have ev := oi_f ev hc1
      by_cases hc2 : b = iI 2
      · have ev := oi_t ev hc2
        have eb : b.toNatClampNeg = 2 := by rw [hc2]; decide
        rw [eb] at hstack ⊢
        exact ep_runUC (x := yX8_spoils) (y := yX8_spoils) (C := ep_bn 2) (owner := "EchoPens$Plain") (As := []) S (metX8_spoils l G h 2 ev (by decide)) rfl rfl ⟨Nat.le_trans (by decide) hfr, Nat.le_trans (by decide) hlo⟩ q683 q686 q684 q695 q687 q684 q695 hs_spoils (ep_preB (by decide) hK hZ hw) hg hn hsize hstack hW hdg hf
      · have ev := oi_f ev hc2
        by_cases hc3 : b = iI 3
        · have ev := oi_t ev hc3
          have eb : b.toNatClampNeg = 3 := by rw [hc3]; decide
          rw [eb] at hstack ⊢
          exact ep_runUC (x := yX8_spoils) (y := yX11_spoils) (C := ep_bn 3) (owner := "EchoPens$Plain") (As := []) S (metX11_spoils l G h 3 ev (by decide)) rfl rfl ⟨Nat.le_trans (by decide) hfr, Nat.le_trans (by decide) hlo⟩ q683 q686 q684 q695 q689 q690 q691 hs_spoils (ep_preB (by decide) hK hZ hw) hg hn hsize hstack hW hdg hf
        · have ev := oi_f ev hc3
          cases ev
theorem hdX1_returns : yX1_returns.cls = RX1 ∧ yX1_returns.cls ≠ "java/lang/invoke/MethodHandle" ∧ yX1_returns.cls ≠ "java/lang/invoke/VarHandle" ∧ (parseMethodDescriptor yX1_returns.desc).map (fun d => d.parameters.length) = some 1 := by decide +kernel
theorem ckX1_returns {h : Hp} {a0 : Nat} {x1 : Int32} {res : Int32} (hf : fX1_returns h a0 x1 = some res) : ep_cls h a0 = some 1 := by
  unfold fX1_returns at hf
  exact (oi_c hf).1
abbrev wX1_returns (p : Program) (l : Launch) (e : Env) (s : State) (m : MethodId) (below : List Frame) (meth : Method) (c : Code) (G : EG) (h : Hp) (a0 : Nat) (x1 : Int32) (res : Int32) (k9 n9 : Nat) (H : Heap) (locs : List Loc) (g : JFrame) : Prop := W p l e (headSpec (ws_ yX1_returns cX1_returns 2 (some .int)) ({ frames := 4, cells := 0, slots := 0, locals := 120 } : Room)).room s m ([.ref a0, .int x1] : List Value).toArray below meth c H locs k9 n9 (MQ below (ep_Qi G ep_cl h res) ([.ref a0, .int x1] : List Value).toArray s 0 0 (ep_A G)) g
set_option maxHeartbeats 4000000 in
theorem metX1_returns (l : Launch) (G : EG) (h : Hp) (a0 : Nat) (x1 : Int32) {res : Int32} (hf : fX1_returns h a0 x1 = some res) : Met l yX1_returns (ws_ yX1_returns cX1_returns 2 (some .int)) ({ frames := 4, cells := 0, slots := 0, locals := 120 } : Room) (ep_Pc G ep_cl h [.ref a0, .int x1]) (ep_Qi G ep_cl h res) 0 0 (ep_A G) := by
  refine Met.ofW (cc := cX1_returns) (maxL := 2) (ret := (some .int)) (by decide) rfl ?_
  intro p e s m args below meth c s₁ B hml hv
  obtain ⟨rfl, hR, hK, hZ⟩ := hv
  have hx := B.exec
  have hb := B.bytes
  have hr := B.returns
  have hlocks := B.notSynchronized
  have hts := atoms_spec (ws := (ws_ yX1_returns cX1_returns 2 (some .int))) B.pre
  have hts : ∀ w ∈ lw_all, w.before _ s = true := fun w h => hts w (List.mem_cons_of_mem _ h)
  have hown : s.vm.findClass RX1 = some m.cls := findClass_of_methodNamed B.named
  have hw : ep_W G ep_cl h s s.heap [] := ⟨hR, va_S.rf⟩
  have hl := lv_entry ([.ref a0, .int x1]) (n := 2) (Nat.le_of_ble_eq_true rfl)
  rw [lg_entry_eq]
  generalize (lg_sl ([.ref a0, .int x1]) ++ List.replicate (2 - (lg_sl ([.ref a0, .int x1])).length) Slot.unset).toArray = ls at hl ⊢
  have hl : lv_has ls 2 [(0, .ref a0), (1, .int x1)] := hl
  unfold fX1_returns at hf
  have hf := (oi_c hf).2
  show wX1_returns p l e s m below meth c G h a0 x1 res 0 0 s.heap ([]) (F0 m 0 ls [])
  refine lv_aload_n hx hb dX1_returns_0 rfl (lv_at hl 0 rfl) ?_
  refine lv_iload_n hx hb dX1_returns_1 rfl (lv_at hl 1 rfl) ?_
  obtain ⟨v1, ev1, hf⟩ := ob_s hf
  refine ep_calli0 (va_runV (As := [.int x1]) (rest := []) ⟨hx, hb, hml, hown, hts⟩ (metX1_isSold l G h a0 x1 ev1) (cwV 1 hts (lw_V q553 q554 q555 q86 q556) rfl rfl rfl hdX1_isSold ⟨Nat.le_of_ble_eq_true rfl, Nat.le_of_ble_eq_true rfl⟩) (ep_preV hK hZ hw rfl (ckX1_isSold ev1)) rfl rfl hl.1 rfl (lv_room (Nat.le_of_ble_eq_true rfl)) dX1_returns_2 ⟨Nat.le_of_ble_eq_true rfl, Nat.le_of_ble_eq_true rfl⟩) hw (fun H locs hw => ?_)
  refine lv_if_ne (tgt := 16) hx hb dX1_returns_5 (by decide) (fun c2 => ?_) (fun c2 => ?_)
  · have hf := oi_f hf c2
    refine lv_iconst (v := iI 0) hx hb dX1_returns_16 rfl ?_
    refine lv_goto (tgt := 50) hx hb dX1_returns_17 (by decide) ?_
    exact ep_retiR hx hb hr hlocks hw hf dX1_returns_50
  · have hf := oi_t hf c2
    refine lv_aload_n hx hb dX1_returns_8 rfl (lv_at hl 0 rfl) ?_
    refine lv_iload_n hx hb dX1_returns_9 rfl (lv_at hl 1 rfl) ?_
    obtain ⟨v3, ev3, hf⟩ := ob_s hf
    refine ep_calli0 (va_runV (As := [.int x1]) (rest := []) ⟨hx, hb, hml, hown, hts⟩ (metX1_isSilent l G h a0 x1 ev3) (cwV 1 hts (lw_V q557 q558 q559 q86 q560) rfl rfl rfl hdX1_isSilent ⟨Nat.le_of_ble_eq_true rfl, Nat.le_of_ble_eq_true rfl⟩) (ep_preV hK hZ hw rfl (ckX1_isSilent ev3)) rfl rfl hl.1 rfl (lv_room (Nat.le_of_ble_eq_true rfl)) dX1_returns_10 ⟨Nat.le_of_ble_eq_true rfl, Nat.le_of_ble_eq_true rfl⟩) hw (fun H locs hw => ?_)
    refine lv_if_eq (tgt := 20) hx hb dX1_returns_13 (by decide) (fun c4 => ?_) (fun c4 => ?_)
    · have hf := oi_t hf c4
      refine ep_breeds hx hb hown hK hZ hw q583 dX1_returns_20 ?_
      refine lv_aload_n hx hb dX1_returns_23 rfl (lv_at hl 0 rfl) ?_
      obtain ⟨r5, er5, hf⟩ := ob_s hf
      refine ep_get (C := RX1) (T := TX1) (N := 11) (ci := 1) hx hb hts in_X1 hown hK hw rfl 2 (by decide) q151 (gR_f er5) dX1_returns_24 ?_
      refine lv_iload_n hx hb dX1_returns_27 rfl (lv_at hl 1 rfl) ?_
      obtain ⟨v6, ev6, hf⟩ := ob_s hf
      refine ep_iald hx hb hK hw ev6 dX1_returns_28 ?_
      obtain ⟨u7, eu7, hf⟩ := ob_s hf
      refine ep_breed hx hb hZ hw eu7 dX1_returns_29 ?_
      refine lv_aload_n hx hb dX1_returns_30 rfl (lv_at hl 0 rfl) ?_
      obtain ⟨r8, er8, hf⟩ := ob_s hf
      refine ep_get (C := RX1) (T := TX1) (N := 11) (ci := 1) hx hb hts in_X1 hown hK hw rfl 5 (by decide) q160 (gR_f er8) dX1_returns_31 ?_
      refine lv_iload_n hx hb dX1_returns_34 rfl (lv_at hl 1 rfl) ?_
      obtain ⟨v9, ev9, hf⟩ := ob_s hf
      refine ep_iald hx hb hK hw ev9 dX1_returns_35 ?_
      refine lv_aload_n hx hb dX1_returns_36 rfl (lv_at hl 0 rfl) ?_
      obtain ⟨r10, er10, hf⟩ := ob_s hf
      refine ep_get (C := RX1) (T := TX1) (N := 11) (ci := 1) hx hb hts in_X1 hown hK hw rfl 0 (by decide) q145 (gR_f er10) dX1_returns_37 ?_
      refine lv_aload_n hx hb dX1_returns_40 rfl (lv_at hl 0 rfl) ?_
      obtain ⟨r11, er11, hf⟩ := ob_s hf
      refine ep_get (C := RX1) (T := TX1) (N := 11) (ci := 1) hx hb hts in_X1 hown hK hw rfl 6 (by decide) q163 (gR_f er11) dX1_returns_41 ?_
      refine lv_iload_n hx hb dX1_returns_44 rfl (lv_at hl 1 rfl) ?_
      obtain ⟨v12, ev12, hf⟩ := ob_s hf
      refine ep_iald hx hb hK hw ev12 dX1_returns_45 ?_
      obtain ⟨v13, ev13, hf⟩ := ob_s hf
      refine ep_iald hx hb hK hw ev13 dX1_returns_46 ?_
      obtain ⟨v14, ev14, hf⟩ := ob_s hf
      refine ep_calli0 (runV_returns ⟨hx, hb, hml, hown, hts⟩ hK hZ hw ev14 (Nat.le_of_ble_eq_true rfl) (Nat.le_of_ble_eq_true rfl) rfl rfl hl.1 rfl (lv_room (Nat.le_of_ble_eq_true rfl)) dX1_returns_47 ⟨Nat.le_of_ble_eq_true rfl, Nat.le_of_ble_eq_true rfl⟩) hw (fun H locs hw => ?_)
      exact ep_retiR hx hb hr hlocks hw hf dX1_returns_50
    · have hf := oi_f hf c4
      refine lv_iconst (v := iI 0) hx hb dX1_returns_16 rfl ?_
      refine lv_goto (tgt := 50) hx hb dX1_returns_17 (by decide) ?_
      exact ep_retiR hx hb hr hlocks hw hf dX1_returns_50
theorem hdX1_period : yX1_period.cls = RX1 ∧ yX1_period.cls ≠ "java/lang/invoke/MethodHandle" ∧ yX1_period.cls ≠ "java/lang/invoke/VarHandle" ∧ (parseMethodDescriptor yX1_period.desc).map (fun d => d.parameters.length) = some 1 := by decide +kernel
theorem ckX1_period {h : Hp} {a0 : Nat} {x1 : Int32} {res : Int32} (hf : fX1_period h a0 x1 = some res) : ep_cls h a0 = some 1 := by
  unfold fX1_period at hf
  exact (oi_c hf).1
abbrev wX1_period (p : Program) (l : Launch) (e : Env) (s : State) (m : MethodId) (below : List Frame) (meth : Method) (c : Code) (G : EG) (h : Hp) (a0 : Nat) (x1 : Int32) (res : Int32) (k9 n9 : Nat) (H : Heap) (locs : List Loc) (g : JFrame) : Prop := W p l e (headSpec (ws_ yX1_period cX1_period 2 (some .int)) ({ frames := 1, cells := 0, slots := 0, locals := 21 } : Room)).room s m ([.ref a0, .int x1] : List Value).toArray below meth c H locs k9 n9 (MQ below (ep_Qi G ep_cl h res) ([.ref a0, .int x1] : List Value).toArray s 0 0 (ep_A G)) g
set_option maxHeartbeats 4000000 in
theorem metX1_period (l : Launch) (G : EG) (h : Hp) (a0 : Nat) (x1 : Int32) {res : Int32} (hf : fX1_period h a0 x1 = some res) : Met l yX1_period (ws_ yX1_period cX1_period 2 (some .int)) ({ frames := 1, cells := 0, slots := 0, locals := 21 } : Room) (ep_Pc G ep_cl h [.ref a0, .int x1]) (ep_Qi G ep_cl h res) 0 0 (ep_A G) := by
  refine Met.ofW (cc := cX1_period) (maxL := 2) (ret := (some .int)) (by decide) rfl ?_
  intro p e s m args below meth c s₁ B hml hv
  obtain ⟨rfl, hR, hK, hZ⟩ := hv
  have hx := B.exec
  have hb := B.bytes
  have hr := B.returns
  have hlocks := B.notSynchronized
  have hts := atoms_spec (ws := (ws_ yX1_period cX1_period 2 (some .int))) B.pre
  have hts : ∀ w ∈ lw_all, w.before _ s = true := fun w h => hts w (List.mem_cons_of_mem _ h)
  have hown : s.vm.findClass RX1 = some m.cls := findClass_of_methodNamed B.named
  have hw : ep_W G ep_cl h s s.heap [] := ⟨hR, va_S.rf⟩
  have hl := lv_entry ([.ref a0, .int x1]) (n := 2) (Nat.le_of_ble_eq_true rfl)
  rw [lg_entry_eq]
  generalize (lg_sl ([.ref a0, .int x1]) ++ List.replicate (2 - (lg_sl ([.ref a0, .int x1])).length) Slot.unset).toArray = ls at hl ⊢
  have hl : lv_has ls 2 [(0, .ref a0), (1, .int x1)] := hl
  unfold fX1_period at hf
  have hf := (oi_c hf).2
  show wX1_period p l e s m below meth c G h a0 x1 res 0 0 s.heap ([]) (F0 m 0 ls [])
  refine lv_aload_n hx hb dX1_period_0 rfl (lv_at hl 0 rfl) ?_
  refine lv_iload_n hx hb dX1_period_1 rfl (lv_at hl 1 rfl) ?_
  obtain ⟨v1, ev1, hf⟩ := ob_s hf
  refine ep_calli0 (va_runV (As := [.int x1]) (rest := []) ⟨hx, hb, hml, hown, hts⟩ (metX1_isSold l G h a0 x1 ev1) (cwV 1 hts (lw_V q553 q554 q555 q86 q556) rfl rfl rfl hdX1_isSold ⟨Nat.le_of_ble_eq_true rfl, Nat.le_of_ble_eq_true rfl⟩) (ep_preV hK hZ hw rfl (ckX1_isSold ev1)) rfl rfl hl.1 rfl (lv_room (Nat.le_of_ble_eq_true rfl)) dX1_period_2 ⟨Nat.le_of_ble_eq_true rfl, Nat.le_of_ble_eq_true rfl⟩) hw (fun H locs hw => ?_)
  refine lv_if_eq (tgt := 12) hx hb dX1_period_5 (by decide) (fun c2 => ?_) (fun c2 => ?_)
  · have hf := oi_t hf c2
    refine lv_aload_n hx hb dX1_period_12 rfl (lv_at hl 0 rfl) ?_
    obtain ⟨r3, er3, hf⟩ := ob_s hf
    refine ep_get (C := RX1) (T := TX1) (N := 11) (ci := 1) hx hb hts in_X1 hown hK hw rfl 0 (by decide) q145 (gR_f er3) dX1_period_13 ?_
    refine lv_aload_n hx hb dX1_period_16 rfl (lv_at hl 0 rfl) ?_
    obtain ⟨r4, er4, hf⟩ := ob_s hf
    refine ep_get (C := RX1) (T := TX1) (N := 11) (ci := 1) hx hb hts in_X1 hown hK hw rfl 6 (by decide) q163 (gR_f er4) dX1_period_17 ?_
    refine lv_iload_n hx hb dX1_period_20 rfl (lv_at hl 1 rfl) ?_
    obtain ⟨v5, ev5, hf⟩ := ob_s hf
    refine ep_iald hx hb hK hw ev5 dX1_period_21 ?_
    obtain ⟨v6, ev6, hf⟩ := ob_s hf
    refine ep_iald hx hb hK hw ev6 dX1_period_22 ?_
    refine lv_aload_n hx hb dX1_period_23 rfl (lv_at hl 0 rfl) ?_
    obtain ⟨r7, er7, hf⟩ := ob_s hf
    refine ep_get (C := RX1) (T := TX1) (N := 11) (ci := 1) hx hb hts in_X1 hown hK hw rfl 4 (by decide) q157 (gR_f er7) dX1_period_24 ?_
    refine lv_iload_n hx hb dX1_period_27 rfl (lv_at hl 1 rfl) ?_
    obtain ⟨v8, ev8, hf⟩ := ob_s hf
    refine ep_iald hx hb hK hw ev8 dX1_period_28 ?_
    refine lv_iadd hx hb dX1_period_29 ?_
    exact ep_retiR hx hb hr hlocks hw hf dX1_period_30
  · have hf := oi_f hf c2
    refine lv_iconst (v := iI 0) hx hb dX1_period_8 rfl ?_
    refine lv_goto (tgt := 30) hx hb dX1_period_9 (by decide) ?_
    exact ep_retiR hx hb hr hlocks hw hf dX1_period_30
theorem hdX0_echo : yX0_echo.cls = RX0 ∧ yX0_echo.cls ≠ "java/lang/invoke/MethodHandle" ∧ yX0_echo.cls ≠ "java/lang/invoke/VarHandle" ∧ (parseMethodDescriptor yX0_echo.desc).map (fun d => d.parameters.length) = some 2 := by decide +kernel
theorem ckX0_echo {h : Hp} {a0 : Nat} {x1 : Int32} {x2 : Int32} {res : Int32} (hf : fX0_echo h a0 x1 x2 = some res) : ep_cls h a0 = some 0 := by
  unfold fX0_echo at hf
  exact (oi_c hf).1
abbrev wX0_echo (p : Program) (l : Launch) (e : Env) (s : State) (m : MethodId) (below : List Frame) (meth : Method) (c : Code) (G : EG) (h : Hp) (a0 : Nat) (x1 : Int32) (x2 : Int32) (res : Int32) (k9 n9 : Nat) (H : Heap) (locs : List Loc) (g : JFrame) : Prop := W p l e (headSpec (ws_ yX0_echo cX0_echo 3 (some .int)) ({ frames := 5, cells := 0, slots := 0, locals := 141 } : Room)).room s m ([.ref a0, .int x1, .int x2] : List Value).toArray below meth c H locs k9 n9 (MQ below (ep_Qi G ep_cl h res) ([.ref a0, .int x1, .int x2] : List Value).toArray s 0 0 (ep_A G)) g
set_option maxHeartbeats 4000000 in
theorem metX0_echo (l : Launch) (G : EG) (h : Hp) (a0 : Nat) (x1 : Int32) (x2 : Int32) {res : Int32} (hf : fX0_echo h a0 x1 x2 = some res) : Met l yX0_echo (ws_ yX0_echo cX0_echo 3 (some .int)) ({ frames := 5, cells := 0, slots := 0, locals := 141 } : Room) (ep_Pc G ep_cl h [.ref a0, .int x1, .int x2]) (ep_Qi G ep_cl h res) 0 0 (ep_A G) := by
  refine Met.ofW (cc := cX0_echo) (maxL := 3) (ret := (some .int)) (by decide) rfl ?_
  intro p e s m args below meth c s₁ B hml hv
  obtain ⟨rfl, hR, hK, hZ⟩ := hv
  have hx := B.exec
  have hb := B.bytes
  have hr := B.returns
  have hlocks := B.notSynchronized
  have hts := atoms_spec (ws := (ws_ yX0_echo cX0_echo 3 (some .int))) B.pre
  have hts : ∀ w ∈ lw_all, w.before _ s = true := fun w h => hts w (List.mem_cons_of_mem _ h)
  have hown : s.vm.findClass RX0 = some m.cls := findClass_of_methodNamed B.named
  have hw : ep_W G ep_cl h s s.heap [] := ⟨hR, va_S.rf⟩
  have hl := lv_entry ([.ref a0, .int x1, .int x2]) (n := 3) (Nat.le_of_ble_eq_true rfl)
  rw [lg_entry_eq]
  generalize (lg_sl ([.ref a0, .int x1, .int x2]) ++ List.replicate (3 - (lg_sl ([.ref a0, .int x1, .int x2])).length) Slot.unset).toArray = ls at hl ⊢
  have hl : lv_has ls 3 [(0, .ref a0), (1, .int x1), (2, .int x2)] := hl
  unfold fX0_echo at hf
  have hf := (oi_c hf).2
  show wX0_echo p l e s m below meth c G h a0 x1 x2 res 0 0 s.heap ([]) (F0 m 0 ls [])
  refine lv_aload_n hx hb dX0_echo_0 rfl (lv_at hl 0 rfl) ?_
  refine lv_iload_n hx hb dX0_echo_1 rfl (lv_at hl 1 rfl) ?_
  obtain ⟨v1, ev1, hf⟩ := ob_s hf
  refine ep_calli0 (va_runV (As := [.int x1]) (rest := []) ⟨hx, hb, hml, hown, hts⟩ (metX0_isEcho l G h a0 x1 ev1) (cwV 1 hts (lw_V q575 q577 qs15 q85 q578) rfl rfl rfl hdX0_isEcho ⟨Nat.le_of_ble_eq_true rfl, Nat.le_of_ble_eq_true rfl⟩) (ep_preV hK hZ hw rfl (ckX0_isEcho ev1)) rfl rfl hl.1 rfl (lv_room (Nat.le_of_ble_eq_true rfl)) dX0_echo_2 ⟨Nat.le_of_ble_eq_true rfl, Nat.le_of_ble_eq_true rfl⟩) hw (fun H locs hw => ?_)
  refine lv_if_ne (tgt := 10) hx hb dX0_echo_5 (by decide) (fun c2 => ?_) (fun c2 => ?_)
  · have hf := oi_f hf c2
    refine lv_iload_n hx hb dX0_echo_10 rfl (lv_at hl 2 rfl) ?_
    by_cases c3 : x2 = iI 0
    · have hf := oi_t hf c3
      refine lv_tableIn (off := 37) (tgt := 48) hx hb dX0_echo_11 (by rw [ep_swIn c3 (by decide)]; decide) (by rw [ep_swIn c3 (by decide)]; decide) (by rw [ep_swIn c3 (by decide)]; rfl) (by decide) ?_
      refine lv_aload_n hx hb dX0_echo_48 rfl (lv_at hl 0 rfl) ?_
      obtain ⟨r9, er9, hf⟩ := ob_s hf
      refine ep_get (C := RX0) (T := TX0) (N := 25) (ci := 0) hx hb hts in_X0 hown hK hw rfl 3 (by decide) q930 (gR_f er9) dX0_echo_49 ?_
      obtain ⟨r10, er10, hf⟩ := ob_s hf
      refine ep_getN (C := RX1) (T := TX1) (N := 11) (ci := 1) hx hb hts in_X1 hown hK hw rfl 2 (by decide) q153 (gR_f er10) dX0_echo_52 ?_
      refine lv_iload_n hx hb dX0_echo_55 rfl (lv_at hl 1 rfl) ?_
      obtain ⟨v11, ev11, hf⟩ := ob_s hf
      refine ep_iald hx hb hK hw ev11 dX0_echo_56 ?_
      exact ep_retiR hx hb hr hlocks hw hf dX0_echo_57
    · have hf := oi_f hf c3
      by_cases c4 : x2 = iI 1
      · have hf := oi_t hf c4
        refine lv_tableIn (off := 47) (tgt := 58) hx hb dX0_echo_11 (by rw [ep_swIn c4 (by decide)]; decide) (by rw [ep_swIn c4 (by decide)]; decide) (by rw [ep_swIn c4 (by decide)]; rfl) (by decide) ?_
        refine lv_aload_n hx hb dX0_echo_58 rfl (lv_at hl 0 rfl) ?_
        obtain ⟨r12, er12, hf⟩ := ob_s hf
        refine ep_get (C := RX0) (T := TX0) (N := 25) (ci := 0) hx hb hts in_X0 hown hK hw rfl 3 (by decide) q930 (gR_f er12) dX0_echo_59 ?_
        obtain ⟨r13, er13, hf⟩ := ob_s hf
        refine ep_getN (C := RX1) (T := TX1) (N := 11) (ci := 1) hx hb hts in_X1 hown hK hw rfl 5 (by decide) q162 (gR_f er13) dX0_echo_62 ?_
        refine lv_iload_n hx hb dX0_echo_65 rfl (lv_at hl 1 rfl) ?_
        obtain ⟨v14, ev14, hf⟩ := ob_s hf
        refine ep_iald hx hb hK hw ev14 dX0_echo_66 ?_
        exact ep_retiR hx hb hr hlocks hw hf dX0_echo_67
      · have hf := oi_f hf c4
        by_cases c5 : x2 = iI 2
        · have hf := oi_t hf c5
          refine lv_tableIn (off := 57) (tgt := 68) hx hb dX0_echo_11 (by rw [ep_swIn c5 (by decide)]; decide) (by rw [ep_swIn c5 (by decide)]; decide) (by rw [ep_swIn c5 (by decide)]; rfl) (by decide) ?_
          refine lv_aload_n hx hb dX0_echo_68 rfl (lv_at hl 0 rfl) ?_
          obtain ⟨r15, er15, hf⟩ := ob_s hf
          refine ep_get (C := RX0) (T := TX0) (N := 25) (ci := 0) hx hb hts in_X0 hown hK hw rfl 3 (by decide) q930 (gR_f er15) dX0_echo_69 ?_
          obtain ⟨r16, er16, hf⟩ := ob_s hf
          refine ep_getN (C := RX1) (T := TX1) (N := 11) (ci := 1) hx hb hts in_X1 hown hK hw rfl 6 (by decide) q165 (gR_f er16) dX0_echo_72 ?_
          refine lv_iload_n hx hb dX0_echo_75 rfl (lv_at hl 1 rfl) ?_
          obtain ⟨v17, ev17, hf⟩ := ob_s hf
          refine ep_iald hx hb hK hw ev17 dX0_echo_76 ?_
          exact ep_retiR hx hb hr hlocks hw hf dX0_echo_77
        · have hf := oi_f hf c5
          by_cases c6 : x2 = iI 3
          · have hf := oi_t hf c6
            refine lv_tableIn (off := 67) (tgt := 78) hx hb dX0_echo_11 (by rw [ep_swIn c6 (by decide)]; decide) (by rw [ep_swIn c6 (by decide)]; decide) (by rw [ep_swIn c6 (by decide)]; rfl) (by decide) ?_
            refine lv_aload_n hx hb dX0_echo_78 rfl (lv_at hl 0 rfl) ?_
            obtain ⟨r18, er18, hf⟩ := ob_s hf
            refine ep_get (C := RX0) (T := TX0) (N := 25) (ci := 0) hx hb hts in_X0 hown hK hw rfl 3 (by decide) q930 (gR_f er18) dX0_echo_79 ?_
            refine lv_iload_n hx hb dX0_echo_82 rfl (lv_at hl 1 rfl) ?_
            obtain ⟨v19, ev19, hf⟩ := ob_s hf
            refine ep_calli0 (va_runV (As := [.int x1]) (rest := []) ⟨hx, hb, hml, hown, hts⟩ (metX1_returns l G h r18 x1 ev19) (cwV 1 hts (lw_V q579 q580 q581 q86 q582) rfl rfl rfl hdX1_returns ⟨Nat.le_of_ble_eq_true rfl, Nat.le_of_ble_eq_true rfl⟩) (ep_preV hK hZ hw rfl (ckX1_returns ev19)) rfl rfl hl.1 rfl (lv_room (Nat.le_of_ble_eq_true rfl)) dX0_echo_83 ⟨Nat.le_of_ble_eq_true rfl, Nat.le_of_ble_eq_true rfl⟩) hw (fun H locs hw => ?_)
            exact ep_retiR hx hb hr hlocks hw hf dX0_echo_86
          · have hf := oi_f hf c6
            by_cases c7 : x2 = iI 4
            · have hf := oi_t hf c7
              refine lv_tableIn (off := 76) (tgt := 87) hx hb dX0_echo_11 (by rw [ep_swIn c7 (by decide)]; decide) (by rw [ep_swIn c7 (by decide)]; decide) (by rw [ep_swIn c7 (by decide)]; rfl) (by decide) ?_
              refine lv_aload_n hx hb dX0_echo_87 rfl (lv_at hl 0 rfl) ?_
              obtain ⟨r20, er20, hf⟩ := ob_s hf
              refine ep_get (C := RX0) (T := TX0) (N := 25) (ci := 0) hx hb hts in_X0 hown hK hw rfl 3 (by decide) q930 (gR_f er20) dX0_echo_88 ?_
              obtain ⟨r21, er21, hf⟩ := ob_s hf
              refine ep_getN (C := RX1) (T := TX1) (N := 11) (ci := 1) hx hb hts in_X1 hown hK hw rfl 4 (by decide) q159 (gR_f er21) dX0_echo_91 ?_
              refine lv_iload_n hx hb dX0_echo_94 rfl (lv_at hl 1 rfl) ?_
              obtain ⟨v22, ev22, hf⟩ := ob_s hf
              refine ep_iald hx hb hK hw ev22 dX0_echo_95 ?_
              exact ep_retiR hx hb hr hlocks hw hf dX0_echo_96
            · have hf := oi_f hf c7
              by_cases c8 : x2 = iI 5
              · have hf := oi_t hf c8
                refine lv_tableIn (off := 86) (tgt := 97) hx hb dX0_echo_11 (by rw [ep_swIn c8 (by decide)]; decide) (by rw [ep_swIn c8 (by decide)]; decide) (by rw [ep_swIn c8 (by decide)]; rfl) (by decide) ?_
                refine lv_aload_n hx hb dX0_echo_97 rfl (lv_at hl 0 rfl) ?_
                obtain ⟨r23, er23, hf⟩ := ob_s hf
                refine ep_get (C := RX0) (T := TX0) (N := 25) (ci := 0) hx hb hts in_X0 hown hK hw rfl 3 (by decide) q930 (gR_f er23) dX0_echo_98 ?_
                refine lv_iload_n hx hb dX0_echo_101 rfl (lv_at hl 1 rfl) ?_
                obtain ⟨v24, ev24, hf⟩ := ob_s hf
                refine ep_calli0 (va_runV (As := [.int x1]) (rest := []) ⟨hx, hb, hml, hown, hts⟩ (metX1_period l G h r23 x1 ev24) (cwV 1 hts (lw_V q605 q606 q607 q86 q608) rfl rfl rfl hdX1_period ⟨Nat.le_of_ble_eq_true rfl, Nat.le_of_ble_eq_true rfl⟩) (ep_preV hK hZ hw rfl (ckX1_period ev24)) rfl rfl hl.1 rfl (lv_room (Nat.le_of_ble_eq_true rfl)) dX0_echo_102 ⟨Nat.le_of_ble_eq_true rfl, Nat.le_of_ble_eq_true rfl⟩) hw (fun H locs hw => ?_)
                exact ep_retiR hx hb hr hlocks hw hf dX0_echo_105
              · have hf := oi_f hf c8
                refine lv_tableOut (tgt := 106) hx hb dX0_echo_11 (ep_swOut (n := 6) (x := x2) (by decide) (lt_s (lt_s (lt_s (lt_s (lt_s (lt_s lt_0 c3) c4) c5) c6) c7) c8)) (by decide) ?_
                refine lv_iconst (v := iI (-1)) hx hb dX0_echo_106 rfl ?_
                exact ep_retiR hx hb hr hlocks hw hf dX0_echo_107
  · have hf := oi_t hf c2
    refine lv_iconst (v := iI (-1)) hx hb dX0_echo_8 rfl ?_
    exact ep_retiR hx hb hr hlocks hw hf dX0_echo_9
theorem hdX0_letter : yX0_letter.cls = RX0 ∧ yX0_letter.cls ≠ "java/lang/invoke/MethodHandle" ∧ yX0_letter.cls ≠ "java/lang/invoke/VarHandle" ∧ (parseMethodDescriptor yX0_letter.desc).map (fun d => d.parameters.length) = some 2 := by decide +kernel
theorem ckX0_letter {h : Hp} {a0 : Nat} {x1 : Int32} {x2 : Int32} {res : Int32} (hf : fX0_letter h a0 x1 x2 = some res) : ep_cls h a0 = some 0 := by
  unfold fX0_letter at hf
  exact (oi_c hf).1
abbrev wX0_letter (p : Program) (l : Launch) (e : Env) (s : State) (m : MethodId) (below : List Frame) (meth : Method) (c : Code) (G : EG) (h : Hp) (a0 : Nat) (x1 : Int32) (x2 : Int32) (res : Int32) (k9 n9 : Nat) (H : Heap) (locs : List Loc) (g : JFrame) : Prop := W p l e (headSpec (ws_ yX0_letter cX0_letter 3 (some .int)) ({ frames := 2, cells := 0, slots := 0, locals := 46 } : Room)).room s m ([.ref a0, .int x1, .int x2] : List Value).toArray below meth c H locs k9 n9 (MQ below (ep_Qi G ep_cl h res) ([.ref a0, .int x1, .int x2] : List Value).toArray s 0 0 (ep_A G)) g
set_option maxHeartbeats 4000000 in
theorem metX0_letter (l : Launch) (G : EG) (h : Hp) (a0 : Nat) (x1 : Int32) (x2 : Int32) {res : Int32} (hf : fX0_letter h a0 x1 x2 = some res) : Met l yX0_letter (ws_ yX0_letter cX0_letter 3 (some .int)) ({ frames := 2, cells := 0, slots := 0, locals := 46 } : Room) (ep_Pc G ep_cl h [.ref a0, .int x1, .int x2]) (ep_Qi G ep_cl h res) 0 0 (ep_A G) := by
  refine Met.ofW (cc := cX0_letter) (maxL := 3) (ret := (some .int)) (by decide) rfl ?_
  intro p e s m args below meth c s₁ B hml hv
  obtain ⟨rfl, hR, hK, hZ⟩ := hv
  have hx := B.exec
  have hb := B.bytes
  have hr := B.returns
  have hlocks := B.notSynchronized
  have hts := atoms_spec (ws := (ws_ yX0_letter cX0_letter 3 (some .int))) B.pre
  have hts : ∀ w ∈ lw_all, w.before _ s = true := fun w h => hts w (List.mem_cons_of_mem _ h)
  have hown : s.vm.findClass RX0 = some m.cls := findClass_of_methodNamed B.named
  have hw : ep_W G ep_cl h s s.heap [] := ⟨hR, va_S.rf⟩
  have hl := lv_entry ([.ref a0, .int x1, .int x2]) (n := 3) (Nat.le_of_ble_eq_true rfl)
  rw [lg_entry_eq]
  generalize (lg_sl ([.ref a0, .int x1, .int x2]) ++ List.replicate (3 - (lg_sl ([.ref a0, .int x1, .int x2])).length) Slot.unset).toArray = ls at hl ⊢
  have hl : lv_has ls 3 [(0, .ref a0), (1, .int x1), (2, .int x2)] := hl
  unfold fX0_letter at hf
  have hf := (oi_c hf).2
  show wX0_letter p l e s m below meth c G h a0 x1 x2 res 0 0 s.heap ([]) (F0 m 0 ls [])
  refine lv_aload_n hx hb dX0_letter_0 rfl (lv_at hl 0 rfl) ?_
  refine lv_iload_n hx hb dX0_letter_1 rfl (lv_at hl 1 rfl) ?_
  obtain ⟨v1, ev1, hf⟩ := ob_s hf
  refine ep_calli0 (va_runV (As := [.int x1]) (rest := []) ⟨hx, hb, hml, hown, hts⟩ (metX0_isEcho l G h a0 x1 ev1) (cwV 1 hts (lw_V q575 q577 qs15 q85 q578) rfl rfl rfl hdX0_isEcho ⟨Nat.le_of_ble_eq_true rfl, Nat.le_of_ble_eq_true rfl⟩) (ep_preV hK hZ hw rfl (ckX0_isEcho ev1)) rfl rfl hl.1 rfl (lv_room (Nat.le_of_ble_eq_true rfl)) dX0_letter_2 ⟨Nat.le_of_ble_eq_true rfl, Nat.le_of_ble_eq_true rfl⟩) hw (fun H locs hw => ?_)
  refine lv_if_eq (tgt := 43) hx hb dX0_letter_5 (by decide) (fun c2 => ?_) (fun c2 => ?_)
  · have hf := oi_t hf c2
    refine lv_iconst (v := iI (-1)) hx hb dX0_letter_43 rfl ?_
    exact ep_retiR hx hb hr hlocks hw hf dX0_letter_44
  · have hf := oi_f hf c2
    refine lv_iload_n hx hb dX0_letter_8 rfl (lv_at hl 2 rfl) ?_
    refine lv_i2l (v := x2.toInt64) hx hb dX0_letter_9 rfl ?_
    refine lv_lconst (v := lI 0) hx hb dX0_letter_10 (by decide) ?_
    refine lv_aload_n hx hb dX0_letter_11 rfl (lv_at hl 0 rfl) ?_
    obtain ⟨r3, er3, hf⟩ := ob_s hf
    refine ep_get (C := RX0) (T := TX0) (N := 25) (ci := 0) hx hb hts in_X0 hown hK hw rfl 3 (by decide) q930 (gR_f er3) dX0_letter_12 ?_
    obtain ⟨r4, er4, hf⟩ := ob_s hf
    refine ep_getN (C := RX1) (T := TX1) (N := 11) (ci := 1) hx hb hts in_X1 hown hK hw rfl 4 (by decide) q159 (gR_f er4) dX0_letter_15 ?_
    refine lv_iload_n hx hb dX0_letter_18 rfl (lv_at hl 1 rfl) ?_
    obtain ⟨v5, ev5, hf⟩ := ob_s hf
    refine ep_iald hx hb hK hw ev5 dX0_letter_19 ?_
    refine lv_iconst (v := iI 1) hx hb dX0_letter_20 rfl ?_
    refine lv_isub hx hb dX0_letter_21 ?_
    refine lv_i2l (v := (v5 - (iI 1)).toInt64) hx hb dX0_letter_22 rfl ?_
    obtain ⟨v6, ev6, hf⟩ := ob_s hf
    refine ep_calli0 (va_runS (As := [.long x2.toInt64, .long (lI 0), .long ((v5 - (iI 1)).toInt64)]) (rest := []) ⟨hx, hb, hml, hown, hts⟩ (metX0_isIn l G h x2.toInt64 (lI 0) ((v5 - (iI 1)).toInt64) ev6) (va_cwS 3 hts (lw_S q114 q115 q85 q116) rfl rfl rfl hsX0_isIn ⟨Nat.le_of_ble_eq_true rfl, Nat.le_of_ble_eq_true rfl⟩) (ep_preS hK hZ hw) rfl rfl hl.1 rfl (lv_room (Nat.le_of_ble_eq_true rfl)) dX0_letter_23 ⟨Nat.le_of_ble_eq_true rfl, Nat.le_of_ble_eq_true rfl⟩) hw (fun H locs hw => ?_)
    refine lv_if_eq (tgt := 43) hx hb dX0_letter_26 (by decide) (fun c7 => ?_) (fun c7 => ?_)
    · have hf := oi_t hf c7
      refine lv_iconst (v := iI (-1)) hx hb dX0_letter_43 rfl ?_
      exact ep_retiR hx hb hr hlocks hw hf dX0_letter_44
    · have hf := oi_f hf c7
      refine lv_aload_n hx hb dX0_letter_29 rfl (lv_at hl 0 rfl) ?_
      obtain ⟨r8, er8, hf⟩ := ob_s hf
      refine ep_get (C := RX0) (T := TX0) (N := 25) (ci := 0) hx hb hts in_X0 hown hK hw rfl 3 (by decide) q930 (gR_f er8) dX0_letter_30 ?_
      obtain ⟨r9, er9, hf⟩ := ob_s hf
      refine ep_getN (C := RX1) (T := TX1) (N := 11) (ci := 1) hx hb hts in_X1 hown hK hw rfl 3 (by decide) q156 (gR_f er9) dX0_letter_33 ?_
      refine lv_iload_n hx hb dX0_letter_36 rfl (lv_at hl 1 rfl) ?_
      obtain ⟨v10, ev10, hf⟩ := ob_s hf
      refine ep_aald 4 (by decide) rfl hx hb hK hw ev10 dX0_letter_37 ?_
      refine lv_iload_n hx hb dX0_letter_38 rfl (lv_at hl 2 rfl) ?_
      obtain ⟨v11, ev11, hf⟩ := ob_s hf
      refine ep_bald 1 (by decide) rfl hx hb hK hw ev11 dX0_letter_39 ?_
      refine lv_goto (tgt := 44) hx hb dX0_letter_40 (by decide) ?_
      exact ep_retiR hx hb hr hlocks hw hf dX0_letter_44
theorem hdX0_isOrder : yX0_isOrder.cls = RX0 ∧ yX0_isOrder.cls ≠ "java/lang/invoke/MethodHandle" ∧ yX0_isOrder.cls ≠ "java/lang/invoke/VarHandle" ∧ (parseMethodDescriptor yX0_isOrder.desc).map (fun d => d.parameters.length) = some 1 := by decide +kernel
theorem ckX0_isOrder {h : Hp} {a0 : Nat} {x1 : Int32} {res : Int32} (hf : fX0_isOrder h a0 x1 = some res) : ep_cls h a0 = some 0 := by
  unfold fX0_isOrder at hf
  exact (oi_c hf).1
abbrev wX0_isOrder (p : Program) (l : Launch) (e : Env) (s : State) (m : MethodId) (below : List Frame) (meth : Method) (c : Code) (G : EG) (h : Hp) (a0 : Nat) (x1 : Int32) (res : Int32) (k9 n9 : Nat) (H : Heap) (locs : List Loc) (g : JFrame) : Prop := W p l e (headSpec (ws_ yX0_isOrder cX0_isOrder 2 (some .boolean)) ({ frames := 1, cells := 0, slots := 0, locals := 25 } : Room)).room s m ([.ref a0, .int x1] : List Value).toArray below meth c H locs k9 n9 (MQ below (ep_Qi G ep_cl h res) ([.ref a0, .int x1] : List Value).toArray s 0 0 (ep_A G)) g
set_option maxHeartbeats 4000000 in
theorem metX0_isOrder (l : Launch) (G : EG) (h : Hp) (a0 : Nat) (x1 : Int32) {res : Int32} (hf : fX0_isOrder h a0 x1 = some res) : Met l yX0_isOrder (ws_ yX0_isOrder cX0_isOrder 2 (some .boolean)) ({ frames := 1, cells := 0, slots := 0, locals := 25 } : Room) (ep_Pc G ep_cl h [.ref a0, .int x1]) (ep_Qi G ep_cl h res) 0 0 (ep_A G) := by
  refine Met.ofW (cc := cX0_isOrder) (maxL := 2) (ret := (some .boolean)) (by decide) rfl ?_
  intro p e s m args below meth c s₁ B hml hv
  obtain ⟨rfl, hR, hK, hZ⟩ := hv
  have hx := B.exec
  have hb := B.bytes
  have hr := B.returns
  have hlocks := B.notSynchronized
  have hts := atoms_spec (ws := (ws_ yX0_isOrder cX0_isOrder 2 (some .boolean))) B.pre
  have hts : ∀ w ∈ lw_all, w.before _ s = true := fun w h => hts w (List.mem_cons_of_mem _ h)
  have hown : s.vm.findClass RX0 = some m.cls := findClass_of_methodNamed B.named
  have hw : ep_W G ep_cl h s s.heap [] := ⟨hR, va_S.rf⟩
  have hl := lv_entry ([.ref a0, .int x1]) (n := 2) (Nat.le_of_ble_eq_true rfl)
  rw [lg_entry_eq]
  generalize (lg_sl ([.ref a0, .int x1]) ++ List.replicate (2 - (lg_sl ([.ref a0, .int x1])).length) Slot.unset).toArray = ls at hl ⊢
  have hl : lv_has ls 2 [(0, .ref a0), (1, .int x1)] := hl
  unfold fX0_isOrder at hf
  have hf := (oi_c hf).2
  show wX0_isOrder p l e s m below meth c G h a0 x1 res 0 0 s.heap ([]) (F0 m 0 ls [])
  refine lv_iload_n hx hb dX0_isOrder_0 rfl (lv_at hl 1 rfl) ?_
  refine lv_i2l (v := x1.toInt64) hx hb dX0_isOrder_1 rfl ?_
  refine lv_lconst (v := lI 0) hx hb dX0_isOrder_2 (by decide) ?_
  refine lv_aload_n hx hb dX0_isOrder_3 rfl (lv_at hl 0 rfl) ?_
  obtain ⟨v1, ev1, hf⟩ := ob_s hf
  refine ep_get (C := RX0) (T := TX0) (N := 25) (ci := 0) hx hb hts in_X0 hown hK hw rfl 6 (by decide) q933 (gI_f ev1) dX0_isOrder_4 ?_
  refine lv_iconst (v := iI 1) hx hb dX0_isOrder_7 rfl ?_
  refine lv_isub hx hb dX0_isOrder_8 ?_
  refine lv_i2l (v := (v1 - (iI 1)).toInt64) hx hb dX0_isOrder_9 rfl ?_
  obtain ⟨v2, ev2, hf⟩ := ob_s hf
  refine ep_calli0 (va_runS (As := [.long x1.toInt64, .long (lI 0), .long ((v1 - (iI 1)).toInt64)]) (rest := []) ⟨hx, hb, hml, hown, hts⟩ (metX0_isIn l G h x1.toInt64 (lI 0) ((v1 - (iI 1)).toInt64) ev2) (va_cwS 3 hts (lw_S q114 q115 q85 q116) rfl rfl rfl hsX0_isIn ⟨Nat.le_of_ble_eq_true rfl, Nat.le_of_ble_eq_true rfl⟩) (ep_preS hK hZ hw) rfl rfl hl.1 rfl (lv_room (Nat.le_of_ble_eq_true rfl)) dX0_isOrder_10 ⟨Nat.le_of_ble_eq_true rfl, Nat.le_of_ble_eq_true rfl⟩) hw (fun H locs hw => ?_)
  obtain ⟨z, ez, hf⟩ := ob_s hf
  obtain ⟨hz, hn⟩ := ckZ_s ez
  rw [hz] at hf
  exact ep_retzR hx hb hr hn hlocks hw hf dX0_isOrder_13
theorem hdX0_order : yX0_order.cls = RX0 ∧ yX0_order.cls ≠ "java/lang/invoke/MethodHandle" ∧ yX0_order.cls ≠ "java/lang/invoke/VarHandle" ∧ (parseMethodDescriptor yX0_order.desc).map (fun d => d.parameters.length) = some 2 := by decide +kernel
theorem ckX0_order {h : Hp} {a0 : Nat} {x1 : Int32} {x2 : Int32} {res : Int32} (hf : fX0_order h a0 x1 x2 = some res) : ep_cls h a0 = some 0 := by
  unfold fX0_order at hf
  exact (oi_c hf).1
abbrev wX0_order (p : Program) (l : Launch) (e : Env) (s : State) (m : MethodId) (below : List Frame) (meth : Method) (c : Code) (G : EG) (h : Hp) (a0 : Nat) (x1 : Int32) (x2 : Int32) (res : Int32) (k9 n9 : Nat) (H : Heap) (locs : List Loc) (g : JFrame) : Prop := W p l e (headSpec (ws_ yX0_order cX0_order 4 (some .int)) ({ frames := 2, cells := 0, slots := 0, locals := 46 } : Room)).room s m ([.ref a0, .int x1, .int x2] : List Value).toArray below meth c H locs k9 n9 (MQ below (ep_Qi G ep_cl h res) ([.ref a0, .int x1, .int x2] : List Value).toArray s 0 0 (ep_A G)) g
set_option maxHeartbeats 4000000 in
theorem metX0_order (l : Launch) (G : EG) (h : Hp) (a0 : Nat) (x1 : Int32) (x2 : Int32) {res : Int32} (hf : fX0_order h a0 x1 x2 = some res) : Met l yX0_order (ws_ yX0_order cX0_order 4 (some .int)) ({ frames := 2, cells := 0, slots := 0, locals := 46 } : Room) (ep_Pc G ep_cl h [.ref a0, .int x1, .int x2]) (ep_Qi G ep_cl h res) 0 0 (ep_A G) := by
  refine Met.ofW (cc := cX0_order) (maxL := 4) (ret := (some .int)) (by decide) rfl ?_
  intro p e s m args below meth c s₁ B hml hv
  obtain ⟨rfl, hR, hK, hZ⟩ := hv
  have hx := B.exec
  have hb := B.bytes
  have hr := B.returns
  have hlocks := B.notSynchronized
  have hts := atoms_spec (ws := (ws_ yX0_order cX0_order 4 (some .int))) B.pre
  have hts : ∀ w ∈ lw_all, w.before _ s = true := fun w h => hts w (List.mem_cons_of_mem _ h)
  have hown : s.vm.findClass RX0 = some m.cls := findClass_of_methodNamed B.named
  have hw : ep_W G ep_cl h s s.heap [] := ⟨hR, va_S.rf⟩
  have hl := lv_entry ([.ref a0, .int x1, .int x2]) (n := 4) (Nat.le_of_ble_eq_true rfl)
  rw [lg_entry_eq]
  generalize (lg_sl ([.ref a0, .int x1, .int x2]) ++ List.replicate (4 - (lg_sl ([.ref a0, .int x1, .int x2])).length) Slot.unset).toArray = ls at hl ⊢
  have hl : lv_has ls 4 [(0, .ref a0), (1, .int x1), (2, .int x2)] := hl
  unfold fX0_order at hf
  have hf := (oi_c hf).2
  show wX0_order p l e s m below meth c G h a0 x1 x2 res 0 0 s.heap ([]) (F0 m 0 ls [])
  refine lv_aload_n hx hb dX0_order_0 rfl (lv_at hl 0 rfl) ?_
  refine lv_iload_n hx hb dX0_order_1 rfl (lv_at hl 1 rfl) ?_
  obtain ⟨v1, ev1, hf⟩ := ob_s hf
  refine ep_calli0 (va_runV (As := [.int x1]) (rest := []) ⟨hx, hb, hml, hown, hts⟩ (metX0_isOrder l G h a0 x1 ev1) (cwV 1 hts (lw_V q617 q619 qs16 q85 q620) rfl rfl rfl hdX0_isOrder ⟨Nat.le_of_ble_eq_true rfl, Nat.le_of_ble_eq_true rfl⟩) (ep_preV hK hZ hw rfl (ckX0_isOrder ev1)) rfl rfl hl.1 rfl (lv_room (Nat.le_of_ble_eq_true rfl)) dX0_order_2 ⟨Nat.le_of_ble_eq_true rfl, Nat.le_of_ble_eq_true rfl⟩) hw (fun H locs hw => ?_)
  refine lv_if_ne (tgt := 10) hx hb dX0_order_5 (by decide) (fun c2 => ?_) (fun c2 => ?_)
  · have hf := oi_f hf c2
    refine lv_aload_n hx hb dX0_order_10 rfl (lv_at hl 0 rfl) ?_
    obtain ⟨r3, er3, hf⟩ := ob_s hf
    refine ep_get (C := RX0) (T := TX0) (N := 25) (ci := 0) hx hb hts in_X0 hown hK hw rfl 5 (by decide) q932 (gR_f er3) dX0_order_11 ?_
    refine lv_iload_n hx hb dX0_order_14 rfl (lv_at hl 1 rfl) ?_
    obtain ⟨v4, ev4, hf⟩ := ob_s hf
    refine ep_aald 6 (by decide) rfl hx hb hK hw ev4 dX0_order_15 ?_
    refine lv_astore_n (lv' := [(3, .ref v4), (0, .ref a0), (1, .int x1), (2, .int x2)]) hx hb dX0_order_16 rfl hl (by decide) rfl (fun ls hl => ?_)
    refine lv_iload_n hx hb dX0_order_17 rfl (lv_at hl 3 rfl) ?_
    by_cases c5 : x2 = iI 0
    · have hf := oi_t hf c5
      refine lv_tableIn (off := 30) (tgt := 48) hx hb dX0_order_18 (by rw [ep_swIn c5 (by decide)]; decide) (by rw [ep_swIn c5 (by decide)]; decide) (by rw [ep_swIn c5 (by decide)]; rfl) (by decide) ?_
      refine lv_aload_n hx hb dX0_order_48 rfl (lv_at hl 0 rfl) ?_
      obtain ⟨v9, ev9, hf⟩ := ob_s hf
      refine ep_getN (C := RX7) (T := TX7) (N := 4) (ci := 7) hx hb hts in_X7 hown hK hw rfl 2 (by decide) q513 (gI_f ev9) dX0_order_49 ?_
      exact ep_retiR hx hb hr hlocks hw hf dX0_order_52
    · have hf := oi_f hf c5
      by_cases c6 : x2 = iI 1
      · have hf := oi_t hf c6
        refine lv_tableIn (off := 35) (tgt := 53) hx hb dX0_order_18 (by rw [ep_swIn c6 (by decide)]; decide) (by rw [ep_swIn c6 (by decide)]; decide) (by rw [ep_swIn c6 (by decide)]; rfl) (by decide) ?_
        refine lv_aload_n hx hb dX0_order_53 rfl (lv_at hl 0 rfl) ?_
        obtain ⟨v10, ev10, hf⟩ := ob_s hf
        refine ep_getN (C := RX7) (T := TX7) (N := 4) (ci := 7) hx hb hts in_X7 hown hK hw rfl 3 (by decide) q515 (gI_f ev10) dX0_order_54 ?_
        exact ep_retiR hx hb hr hlocks hw hf dX0_order_57
      · have hf := oi_f hf c6
        by_cases c7 : x2 = iI 2
        · have hf := oi_t hf c7
          refine lv_tableIn (off := 40) (tgt := 58) hx hb dX0_order_18 (by rw [ep_swIn c7 (by decide)]; decide) (by rw [ep_swIn c7 (by decide)]; decide) (by rw [ep_swIn c7 (by decide)]; rfl) (by decide) ?_
          refine lv_aload_n hx hb dX0_order_58 rfl (lv_at hl 0 rfl) ?_
          obtain ⟨v11, ev11, hf⟩ := ob_s hf
          refine ep_getN (C := RX7) (T := TX7) (N := 4) (ci := 7) hx hb hts in_X7 hown hK hw rfl 1 (by decide) q511 (gI_f ev11) dX0_order_59 ?_
          exact ep_retiR hx hb hr hlocks hw hf dX0_order_62
        · have hf := oi_f hf c7
          by_cases c8 : x2 = iI 3
          · have hf := oi_t hf c8
            refine lv_tableIn (off := 45) (tgt := 63) hx hb dX0_order_18 (by rw [ep_swIn c8 (by decide)]; decide) (by rw [ep_swIn c8 (by decide)]; decide) (by rw [ep_swIn c8 (by decide)]; rfl) (by decide) ?_
            refine lv_aload_n hx hb dX0_order_63 rfl (lv_at hl 1 rfl) ?_
            obtain ⟨r12, er12, hf⟩ := ob_s hf
            refine ep_get (C := RX0) (T := TX0) (N := 25) (ci := 0) hx hb hts in_X0 hown hK hw rfl 3 (by decide) q930 (gR_f er12) dX0_order_64 ?_
            obtain ⟨v13, ev13, hf⟩ := ob_s hf
            refine ep_getN (C := RX1) (T := TX1) (N := 11) (ci := 1) hx hb hts in_X1 hown hK hw rfl 8 (by decide) q170 (gI_f ev13) dX0_order_67 ?_
            refine lv_iload_n hx hb dX0_order_70 rfl (lv_at hl 2 rfl) ?_
            refine lv_ishr hx hb dX0_order_71 ?_
            refine lv_iconst (v := iI 1) hx hb dX0_order_72 rfl ?_
            refine lv_iand hx hb dX0_order_73 ?_
            exact ep_retiR hx hb hr hlocks hw hf dX0_order_74
          · have hf := oi_f hf c8
            refine lv_tableOut (tgt := 75) hx hb dX0_order_18 (ep_swOut (n := 4) (x := x2) (by decide) (lt_s (lt_s (lt_s (lt_s lt_0 c5) c6) c7) c8)) (by decide) ?_
            refine lv_iload_n hx hb dX0_order_75 rfl (lv_at hl 3 rfl) ?_
            refine lv_i2l (v := x2.toInt64) hx hb dX0_order_76 rfl ?_
            refine lv_ldc2 (v := (10 : Int64)) hx hb hown (hts _ q621) dX0_order_77 ?_
            refine lv_bipush (v := iI 10) hx hb dX0_order_80 (by decide) ?_
            refine lv_aload_n hx hb dX0_order_82 rfl (lv_at hl 0 rfl) ?_
            obtain ⟨v14, ev14, hf⟩ := ob_s hf
            refine ep_getN (C := RX7) (T := TX7) (N := 4) (ci := 7) hx hb hts in_X7 hown hK hw rfl 1 (by decide) q511 (gI_f ev14) dX0_order_83 ?_
            refine lv_iadd hx hb dX0_order_86 ?_
            refine lv_iconst (v := iI 1) hx hb dX0_order_87 rfl ?_
            refine lv_isub hx hb dX0_order_88 ?_
            refine lv_i2l (v := (((iI 10) + v14) - (iI 1)).toInt64) hx hb dX0_order_89 rfl ?_
            obtain ⟨v15, ev15, hf⟩ := ob_s hf
            refine ep_calli0 (va_runS (As := [.long x2.toInt64, .long (10 : Int64), .long ((((iI 10) + v14) - (iI 1)).toInt64)]) (rest := []) ⟨hx, hb, hml, hown, hts⟩ (metX0_isIn l G h x2.toInt64 (10 : Int64) ((((iI 10) + v14) - (iI 1)).toInt64) ev15) (va_cwS 3 hts (lw_S q114 q115 q85 q116) rfl rfl rfl hsX0_isIn ⟨Nat.le_of_ble_eq_true rfl, Nat.le_of_ble_eq_true rfl⟩) (ep_preS hK hZ hw) rfl rfl hl.1 rfl (lv_room (Nat.le_of_ble_eq_true rfl)) dX0_order_90 ⟨Nat.le_of_ble_eq_true rfl, Nat.le_of_ble_eq_true rfl⟩) hw (fun H locs hw => ?_)
            refine lv_if_eq (tgt := 108) hx hb dX0_order_93 (by decide) (fun c16 => ?_) (fun c16 => ?_)
            · have hf := oi_t hf c16
              refine lv_iconst (v := iI (-1)) hx hb dX0_order_108 rfl ?_
              exact ep_retiR hx hb hr hlocks hw hf dX0_order_109
            · have hf := oi_f hf c16
              refine lv_aload_n hx hb dX0_order_96 rfl (lv_at hl 0 rfl) ?_
              obtain ⟨r17, er17, hf⟩ := ob_s hf
              refine ep_getN (C := RX7) (T := TX7) (N := 4) (ci := 7) hx hb hts in_X7 hown hK hw rfl 0 (by decide) q509 (gR_f er17) dX0_order_97 ?_
              refine lv_iload_n hx hb dX0_order_100 rfl (lv_at hl 3 rfl) ?_
              refine lv_bipush (v := iI 10) hx hb dX0_order_101 (by decide) ?_
              refine lv_isub hx hb dX0_order_103 ?_
              obtain ⟨v18, ev18, hf⟩ := ob_s hf
              refine ep_bald 1 (by decide) rfl hx hb hK hw ev18 dX0_order_104 ?_
              refine lv_goto (tgt := 109) hx hb dX0_order_105 (by decide) ?_
              exact ep_retiR hx hb hr hlocks hw hf dX0_order_109
  · have hf := oi_t hf c2
    refine lv_iconst (v := iI (-1)) hx hb dX0_order_8 rfl ?_
    exact ep_retiR hx hb hr hlocks hw hf dX0_order_9
theorem hdX0_hasRoom : yX0_hasRoom.cls = RX0 ∧ yX0_hasRoom.cls ≠ "java/lang/invoke/MethodHandle" ∧ yX0_hasRoom.cls ≠ "java/lang/invoke/VarHandle" ∧ (parseMethodDescriptor yX0_hasRoom.desc).map (fun d => d.parameters.length) = some 2 := by decide +kernel
theorem ckX0_hasRoom {h : Hp} {a0 : Nat} {a1 : Nat} {x2 : Int32} {res : Int32} (hf : fX0_hasRoom h a0 a1 x2 = some res) : ep_cls h a0 = some 0 := by
  unfold fX0_hasRoom at hf
  exact (oi_c hf).1
abbrev wX0_hasRoom (p : Program) (l : Launch) (e : Env) (s : State) (m : MethodId) (below : List Frame) (meth : Method) (c : Code) (G : EG) (h : Hp) (a0 : Nat) (a1 : Nat) (x2 : Int32) (res : Int32) (k9 n9 : Nat) (H : Heap) (locs : List Loc) (g : JFrame) : Prop := W p l e (headSpec (ws_ yX0_hasRoom cX0_hasRoom 3 (some .boolean)) ({ frames := 1, cells := 0, slots := 0, locals := 23 } : Room)).room s m ([.ref a0, .ref a1, .int x2] : List Value).toArray below meth c H locs k9 n9 (MQ below (ep_Qi G ep_cl h res) ([.ref a0, .ref a1, .int x2] : List Value).toArray s 0 0 (ep_A G)) g
set_option maxHeartbeats 4000000 in
theorem metX0_hasRoom (l : Launch) (G : EG) (h : Hp) (a0 : Nat) (a1 : Nat) (x2 : Int32) {res : Int32} (hf : fX0_hasRoom h a0 a1 x2 = some res) : Met l yX0_hasRoom (ws_ yX0_hasRoom cX0_hasRoom 3 (some .boolean)) ({ frames := 1, cells := 0, slots := 0, locals := 23 } : Room) (ep_Pc G ep_cl h [.ref a0, .ref a1, .int x2]) (ep_Qi G ep_cl h res) 0 0 (ep_A G) := by
  refine Met.ofW (cc := cX0_hasRoom) (maxL := 3) (ret := (some .boolean)) (by decide) rfl ?_
  intro p e s m args below meth c s₁ B hml hv
  obtain ⟨rfl, hR, hK, hZ⟩ := hv
  have hx := B.exec
  have hb := B.bytes
  have hr := B.returns
  have hlocks := B.notSynchronized
  have hts := atoms_spec (ws := (ws_ yX0_hasRoom cX0_hasRoom 3 (some .boolean))) B.pre
  have hts : ∀ w ∈ lw_all, w.before _ s = true := fun w h => hts w (List.mem_cons_of_mem _ h)
  have hown : s.vm.findClass RX0 = some m.cls := findClass_of_methodNamed B.named
  have hw : ep_W G ep_cl h s s.heap [] := ⟨hR, va_S.rf⟩
  have hl := lv_entry ([.ref a0, .ref a1, .int x2]) (n := 3) (Nat.le_of_ble_eq_true rfl)
  rw [lg_entry_eq]
  generalize (lg_sl ([.ref a0, .ref a1, .int x2]) ++ List.replicate (3 - (lg_sl ([.ref a0, .ref a1, .int x2])).length) Slot.unset).toArray = ls at hl ⊢
  have hl : lv_has ls 3 [(0, .ref a0), (1, .ref a1), (2, .int x2)] := hl
  unfold fX0_hasRoom at hf
  have hf := (oi_c hf).2
  show wX0_hasRoom p l e s m below meth c G h a0 a1 x2 res 0 0 s.heap ([]) (F0 m 0 ls [])
  refine lv_aload_n hx hb dX0_hasRoom_0 rfl (lv_at hl 1 rfl) ?_
  refine lv_iload_n hx hb dX0_hasRoom_1 rfl (lv_at hl 2 rfl) ?_
  obtain ⟨v1, ev1, hf⟩ := ob_s hf
  refine ep_calli0 (va_runV (As := [.int x2]) (rest := []) ⟨hx, hb, hml, hown, hts⟩ (metX1_in l G h a1 x2 ev1) (cwV 1 hts (lw_V q548 q526 q527 q86 q528) rfl rfl rfl hdX1_in ⟨Nat.le_of_ble_eq_true rfl, Nat.le_of_ble_eq_true rfl⟩) (ep_preV hK hZ hw rfl (ckX1_in ev1)) rfl rfl hl.1 rfl (lv_room (Nat.le_of_ble_eq_true rfl)) dX0_hasRoom_2 ⟨Nat.le_of_ble_eq_true rfl, Nat.le_of_ble_eq_true rfl⟩) hw (fun H locs hw => ?_)
  obtain ⟨v2, ev2, hf⟩ := ob_s hf
  refine ep_calli0 (va_runS (As := [.int v1]) (rest := []) ⟨hx, hb, hml, hown, hts⟩ (metJ9_bitCount l G h v1 ev2) (va_cwS 1 hts (lw_S q634 q530 q103 q531) rfl rfl rfl hsJ9_bitCount ⟨Nat.le_of_ble_eq_true rfl, Nat.le_of_ble_eq_true rfl⟩) (ep_preS hK hZ hw) rfl rfl hl.1 rfl (lv_room (Nat.le_of_ble_eq_true rfl)) dX0_hasRoom_5 ⟨Nat.le_of_ble_eq_true rfl, Nat.le_of_ble_eq_true rfl⟩) hw (fun H locs hw => ?_)
  refine lv_iconst (v := iI 3) hx hb dX0_hasRoom_8 rfl ?_
  refine lv_icmp_ge (tgt := 16) hx hb dX0_hasRoom_9 (by decide) (fun c3 => ?_) (fun c3 => ?_)
  · have hf := oi_t hf c3
    refine lv_iconst (v := iI 0) hx hb dX0_hasRoom_16 rfl ?_
    exact ep_retzR hx hb hr rfl hlocks hw hf dX0_hasRoom_17
  · have hf := oi_f hf c3
    refine lv_iconst (v := iI 1) hx hb dX0_hasRoom_12 rfl ?_
    refine lv_goto (tgt := 17) hx hb dX0_hasRoom_13 (by decide) ?_
    exact ep_retzR hx hb hr rfl hlocks hw hf dX0_hasRoom_17
theorem hdX0_drives : yX0_drives.cls = RX0 ∧ yX0_drives.cls ≠ "java/lang/invoke/MethodHandle" ∧ yX0_drives.cls ≠ "java/lang/invoke/VarHandle" ∧ (parseMethodDescriptor yX0_drives.desc).map (fun d => d.parameters.length) = some 2 := by decide +kernel
theorem ckX0_drives {h : Hp} {a0 : Nat} {x1 : Int32} {x2 : Int32} {res : Int32 × Hp} (hf : fX0_drives h a0 x1 x2 = some res) : ep_cls h a0 = some 0 := by
  unfold fX0_drives at hf
  exact (oi_c hf).1
abbrev wX0_drives (p : Program) (l : Launch) (e : Env) (s : State) (m : MethodId) (below : List Frame) (meth : Method) (c : Code) (G : EG) (h : Hp) (a0 : Nat) (x1 : Int32) (x2 : Int32) (res : Int32 × Hp) (k9 n9 : Nat) (H : Heap) (locs : List Loc) (g : JFrame) : Prop := W p l e (headSpec (ws_ yX0_drives cX0_drives 4 (some .int)) ({ frames := 2, cells := 0, slots := 0, locals := 46 } : Room)).room s m ([.ref a0, .int x1, .int x2] : List Value).toArray below meth c H locs k9 n9 (MQ below (ep_Qi G ep_cl res.2 res.1) ([.ref a0, .int x1, .int x2] : List Value).toArray s 0 0 (ep_A G)) g
set_option maxHeartbeats 4000000 in
theorem metX0_drives (l : Launch) (G : EG) (h : Hp) (a0 : Nat) (x1 : Int32) (x2 : Int32) {res : Int32 × Hp} (hf : fX0_drives h a0 x1 x2 = some res) : Met l yX0_drives (ws_ yX0_drives cX0_drives 4 (some .int)) ({ frames := 2, cells := 0, slots := 0, locals := 46 } : Room) (ep_Pc G ep_cl h [.ref a0, .int x1, .int x2]) (ep_Qi G ep_cl res.2 res.1) 0 0 (ep_A G) := by
  refine Met.ofW (cc := cX0_drives) (maxL := 4) (ret := (some .int)) (by decide) rfl ?_
  intro p e s m args below meth c s₁ B hml hv
  obtain ⟨rfl, hR, hK, hZ⟩ := hv
  have hx := B.exec
  have hb := B.bytes
  have hr := B.returns
  have hlocks := B.notSynchronized
  have hts := atoms_spec (ws := (ws_ yX0_drives cX0_drives 4 (some .int))) B.pre
  have hts : ∀ w ∈ lw_all, w.before _ s = true := fun w h => hts w (List.mem_cons_of_mem _ h)
  have hown : s.vm.findClass RX0 = some m.cls := findClass_of_methodNamed B.named
  have hw : ep_W G ep_cl h s s.heap [] := ⟨hR, va_S.rf⟩
  have hl := lv_entry ([.ref a0, .int x1, .int x2]) (n := 4) (Nat.le_of_ble_eq_true rfl)
  rw [lg_entry_eq]
  generalize (lg_sl ([.ref a0, .int x1, .int x2]) ++ List.replicate (4 - (lg_sl ([.ref a0, .int x1, .int x2])).length) Slot.unset).toArray = ls at hl ⊢
  have hl : lv_has ls 4 [(0, .ref a0), (1, .int x1), (2, .int x2)] := hl
  unfold fX0_drives at hf
  have hf := (oi_c hf).2
  show wX0_drives p l e s m below meth c G h a0 x1 x2 res 0 0 s.heap ([]) (F0 m 0 ls [])
  refine lv_aload_n hx hb dX0_drives_0 rfl (lv_at hl 0 rfl) ?_
  refine lv_iload_n hx hb dX0_drives_1 rfl (lv_at hl 1 rfl) ?_
  obtain ⟨v1, ev1, hf⟩ := ob_s hf
  refine ep_calli0 (va_runV (As := [.int x1]) (rest := []) ⟨hx, hb, hml, hown, hts⟩ (metX0_isEcho l G h a0 x1 ev1) (cwV 1 hts (lw_V q575 q577 qs15 q85 q578) rfl rfl rfl hdX0_isEcho ⟨Nat.le_of_ble_eq_true rfl, Nat.le_of_ble_eq_true rfl⟩) (ep_preV hK hZ hw rfl (ckX0_isEcho ev1)) rfl rfl hl.1 rfl (lv_room (Nat.le_of_ble_eq_true rfl)) dX0_drives_2 ⟨Nat.le_of_ble_eq_true rfl, Nat.le_of_ble_eq_true rfl⟩) hw (fun H locs hw => ?_)
  refine lv_if_eq (tgt := 16) hx hb dX0_drives_5 (by decide) (fun c2 => ?_) (fun c2 => ?_)
  · have hf := oi_t hf c2
    refine lv_iconst (v := iI (-1)) hx hb dX0_drives_16 rfl ?_
    exact ep_retiW hx hb hr hlocks hw hf dX0_drives_17
  · have hf := oi_f hf c2
    refine lv_aload_n hx hb dX0_drives_8 rfl (lv_at hl 0 rfl) ?_
    refine lv_iload_n hx hb dX0_drives_9 rfl (lv_at hl 2 rfl) ?_
    obtain ⟨v3, ev3, hf⟩ := ob_s hf
    refine ep_calli0 (va_runV (As := [.int x2]) (rest := []) ⟨hx, hb, hml, hown, hts⟩ (metX0_isPen l G h a0 x2 ev3) (cwV 1 hts (lw_V q565 q567 qs14 q85 q569) rfl rfl rfl hdX0_isPen ⟨Nat.le_of_ble_eq_true rfl, Nat.le_of_ble_eq_true rfl⟩) (ep_preV hK hZ hw rfl (ckX0_isPen ev3)) rfl rfl hl.1 rfl (lv_room (Nat.le_of_ble_eq_true rfl)) dX0_drives_10 ⟨Nat.le_of_ble_eq_true rfl, Nat.le_of_ble_eq_true rfl⟩) hw (fun H locs hw => ?_)
    refine lv_if_ne (tgt := 18) hx hb dX0_drives_13 (by decide) (fun c4 => ?_) (fun c4 => ?_)
    · have hf := oi_f hf c4
      refine lv_aload_n hx hb dX0_drives_18 rfl (lv_at hl 0 rfl) ?_
      obtain ⟨r5, er5, hf⟩ := ob_s hf
      refine ep_get (C := RX0) (T := TX0) (N := 25) (ci := 0) hx hb hts in_X0 hown hK hw rfl 3 (by decide) q930 (gR_f er5) dX0_drives_19 ?_
      obtain ⟨r6, er6, hf⟩ := ob_s hf
      refine ep_getN (C := RX1) (T := TX1) (N := 11) (ci := 1) hx hb hts in_X1 hown hK hw rfl 6 (by decide) q165 (gR_f er6) dX0_drives_22 ?_
      refine lv_iload_n hx hb dX0_drives_25 rfl (lv_at hl 1 rfl) ?_
      obtain ⟨v7, ev7, hf⟩ := ob_s hf
      refine ep_iald hx hb hK hw ev7 dX0_drives_26 ?_
      refine lv_istore_n (lv' := [(3, .int v7), (0, .ref a0), (1, .int x1), (2, .int x2)]) hx hb dX0_drives_27 rfl hl (by decide) rfl (fun ls hl => ?_)
      refine lv_iload_n hx hb dX0_drives_28 rfl (lv_at hl 0 rfl) ?_
      refine lv_iload_n hx hb dX0_drives_29 rfl (lv_at hl 3 rfl) ?_
      refine lv_icmp_eq (tgt := 39) hx hb dX0_drives_30 (by decide) (fun c8 => ?_) (fun c8 => ?_)
      · have hf := oi_t hf c8
        refine lv_bipush (v := iI (-2)) hx hb dX0_drives_39 (by decide) ?_
        exact ep_retiW hx hb hr hlocks hw hf dX0_drives_41
      · have hf := oi_f hf c8
        refine lv_iload_n hx hb dX0_drives_33 rfl (lv_at hl 0 rfl) ?_
        refine lv_bipush (v := iI (-4)) hx hb dX0_drives_34 (by decide) ?_
        refine lv_icmp_ne (tgt := 42) hx hb dX0_drives_36 (by decide) (fun c9 => ?_) (fun c9 => ?_)
        · have hf := oi_f hf c9
          refine lv_aload_n hx hb dX0_drives_42 rfl (lv_at hl 1 rfl) ?_
          refine lv_aload_n hx hb dX0_drives_43 rfl (lv_at hl 1 rfl) ?_
          obtain ⟨r10, er10, hf⟩ := ob_s hf
          refine ep_get (C := RX0) (T := TX0) (N := 25) (ci := 0) hx hb hts in_X0 hown hK hw rfl 3 (by decide) q930 (gR_f er10) dX0_drives_44 ?_
          refine lv_iload_n hx hb dX0_drives_47 rfl (lv_at hl 3 rfl) ?_
          obtain ⟨v11, ev11, hf⟩ := ob_s hf
          refine ep_calli0 (va_runV (As := [.ref r10, .int x2]) (rest := []) ⟨hx, hb, hml, hown, hts⟩ (metX0_hasRoom l G h a0 r10 x2 ev11) (cwV 2 hts (lw_V q630 q632 qs18 q85 q633) rfl rfl rfl hdX0_hasRoom ⟨Nat.le_of_ble_eq_true rfl, Nat.le_of_ble_eq_true rfl⟩) (ep_preV hK hZ hw rfl (ckX0_hasRoom ev11)) rfl rfl hl.1 rfl (lv_room (Nat.le_of_ble_eq_true rfl)) dX0_drives_48 ⟨Nat.le_of_ble_eq_true rfl, Nat.le_of_ble_eq_true rfl⟩) hw (fun H locs hw => ?_)
          refine lv_if_ne (tgt := 57) hx hb dX0_drives_51 (by decide) (fun c12 => ?_) (fun c12 => ?_)
          · have hf := oi_f hf c12
            refine lv_aload_n hx hb dX0_drives_57 rfl (lv_at hl 1 rfl) ?_
            obtain ⟨r13, er13, hf⟩ := ob_s hf
            refine ep_get (C := RX0) (T := TX0) (N := 25) (ci := 0) hx hb hts in_X0 hown hK hw rfl 3 (by decide) q930 (gR_f er13) dX0_drives_58 ?_
            obtain ⟨r14, er14, hf⟩ := ob_s hf
            refine ep_getN (C := RX1) (T := TX1) (N := 11) (ci := 1) hx hb hts in_X1 hown hK hw rfl 6 (by decide) q165 (gR_f er14) dX0_drives_61 ?_
            refine lv_iload_n hx hb dX0_drives_64 rfl (lv_at hl 2 rfl) ?_
            refine lv_iload_n hx hb dX0_drives_65 rfl (lv_at hl 3 rfl) ?_
            obtain ⟨h15, eh15, hf⟩ := ob_s hf
            refine ep_iast hx hb hK hw eh15 dX0_drives_66 (fun H locs hw => ?_)
            refine lv_iload_n hx hb dX0_drives_67 rfl (lv_at hl 0 rfl) ?_
            exact ep_retiW hx hb hr hlocks hw hf dX0_drives_68
          · have hf := oi_t hf c12
            refine lv_bipush (v := iI (-3)) hx hb dX0_drives_54 (by decide) ?_
            exact ep_retiW hx hb hr hlocks hw hf dX0_drives_56
        · have hf := oi_t hf c9
          refine lv_bipush (v := iI (-2)) hx hb dX0_drives_39 (by decide) ?_
          exact ep_retiW hx hb hr hlocks hw hf dX0_drives_41
    · have hf := oi_t hf c4
      refine lv_iconst (v := iI (-1)) hx hb dX0_drives_16 rfl ?_
      exact ep_retiW hx hb hr hlocks hw hf dX0_drives_17
theorem hdX0_drive : yX0_drive.cls = RX0 ∧ yX0_drive.cls ≠ "java/lang/invoke/MethodHandle" ∧ yX0_drive.cls ≠ "java/lang/invoke/VarHandle" ∧ (parseMethodDescriptor yX0_drive.desc).map (fun d => d.parameters.length) = some 2 := by decide +kernel
theorem ckX0_drive {h : Hp} {a0 : Nat} {x1 : Int32} {x2 : Int32} {res : Int32 × Hp} (hf : fX0_drive h a0 x1 x2 = some res) : ep_cls h a0 = some 0 := by
  unfold fX0_drive at hf
  exact (oi_c hf).1
abbrev wX0_drive (p : Program) (l : Launch) (e : Env) (s : State) (m : MethodId) (below : List Frame) (meth : Method) (c : Code) (G : EG) (h : Hp) (a0 : Nat) (x1 : Int32) (x2 : Int32) (res : Int32 × Hp) (k9 n9 : Nat) (H : Heap) (locs : List Loc) (g : JFrame) : Prop := W p l e (headSpec (ws_ yX0_drive cX0_drive 3 (some .int)) ({ frames := 3, cells := 0, slots := 0, locals := 69 } : Room)).room s m ([.ref a0, .int x1, .int x2] : List Value).toArray below meth c H locs k9 n9 (MQ below (ep_Qi G ep_cl res.2 res.1) ([.ref a0, .int x1, .int x2] : List Value).toArray s 0 0 (ep_A G)) g
set_option maxHeartbeats 4000000 in
theorem metX0_drive (l : Launch) (G : EG) (h : Hp) (a0 : Nat) (x1 : Int32) (x2 : Int32) {res : Int32 × Hp} (hf : fX0_drive h a0 x1 x2 = some res) : Met l yX0_drive (ws_ yX0_drive cX0_drive 3 (some .int)) ({ frames := 3, cells := 0, slots := 0, locals := 69 } : Room) (ep_Pc G ep_cl h [.ref a0, .int x1, .int x2]) (ep_Qi G ep_cl res.2 res.1) 0 0 (ep_A G) := by
  refine Met.ofW (cc := cX0_drive) (maxL := 3) (ret := (some .int)) (by decide) rfl ?_
  intro p e s m args below meth c s₁ B hml hv
  obtain ⟨rfl, hR, hK, hZ⟩ := hv
  have hx := B.exec
  have hb := B.bytes
  have hr := B.returns
  have hlocks := B.notSynchronized
  have hts := atoms_spec (ws := (ws_ yX0_drive cX0_drive 3 (some .int))) B.pre
  have hts : ∀ w ∈ lw_all, w.before _ s = true := fun w h => hts w (List.mem_cons_of_mem _ h)
  have hown : s.vm.findClass RX0 = some m.cls := findClass_of_methodNamed B.named
  have hw : ep_W G ep_cl h s s.heap [] := ⟨hR, va_S.rf⟩
  have hl := lv_entry ([.ref a0, .int x1, .int x2]) (n := 3) (Nat.le_of_ble_eq_true rfl)
  rw [lg_entry_eq]
  generalize (lg_sl ([.ref a0, .int x1, .int x2]) ++ List.replicate (3 - (lg_sl ([.ref a0, .int x1, .int x2])).length) Slot.unset).toArray = ls at hl ⊢
  have hl : lv_has ls 3 [(0, .ref a0), (1, .int x1), (2, .int x2)] := hl
  unfold fX0_drive at hf
  have hf := (oi_c hf).2
  show wX0_drive p l e s m below meth c G h a0 x1 x2 res 0 0 s.heap ([]) (F0 m 0 ls [])
  refine lv_aload_n hx hb dX0_drive_0 rfl (lv_at hl 0 rfl) ?_
  refine lv_iload_n hx hb dX0_drive_1 rfl (lv_at hl 1 rfl) ?_
  refine lv_iload_n hx hb dX0_drive_2 rfl (lv_at hl 2 rfl) ?_
  obtain ⟨o1, eo1, hf⟩ := ob_s hf
  refine ep_calli0 (va_runV (As := [.int x1, .int x2]) (rest := []) ⟨hx, hb, hml, hown, hts⟩ (metX0_drives l G h a0 x1 x2 eo1) (cwV 2 hts (lw_V q626 q628 qs17 q85 q629) rfl rfl rfl hdX0_drives ⟨Nat.le_of_ble_eq_true rfl, Nat.le_of_ble_eq_true rfl⟩) (ep_preV hK hZ hw rfl (ckX0_drives eo1)) rfl rfl hl.1 rfl (lv_room (Nat.le_of_ble_eq_true rfl)) dX0_drive_3 ⟨Nat.le_of_ble_eq_true rfl, Nat.le_of_ble_eq_true rfl⟩) hw (fun H locs hw => ?_)
  exact ep_retiW hx hb hr hlocks hw hf dX0_drive_6
theorem hsX0_sets : yX0_sets.cls ≠ "java/lang/invoke/MethodHandle" ∧ yX0_sets.cls ≠ "java/lang/invoke/VarHandle" ∧ (parseMethodDescriptor yX0_sets.desc).map (fun d => d.parameters.length) = some 3 := by decide +kernel
abbrev wX0_sets (p : Program) (l : Launch) (e : Env) (s : State) (m : MethodId) (below : List Frame) (meth : Method) (c : Code) (G : EG) (h : Hp) (a0 : Nat) (x1 : Int32) (x2 : Int32) (res : Int32 × Hp) (k9 n9 : Nat) (H : Heap) (locs : List Loc) (g : JFrame) : Prop := W p l e (headSpec (ws_ yX0_sets cX0_sets 4 (some .int)) ({ frames := 0, cells := 0, slots := 0, locals := 0 } : Room)).room s m ([.ref a0, .int x1, .int x2] : List Value).toArray below meth c H locs k9 n9 (MQ below (ep_Qi G ep_cl res.2 res.1) ([.ref a0, .int x1, .int x2] : List Value).toArray s 0 0 (ep_A G)) g
set_option maxHeartbeats 4000000 in
theorem metX0_sets (l : Launch) (G : EG) (h : Hp) (a0 : Nat) (x1 : Int32) (x2 : Int32) {res : Int32 × Hp} (hf : fX0_sets h a0 x1 x2 = some res) : Met l yX0_sets (ws_ yX0_sets cX0_sets 4 (some .int)) ({ frames := 0, cells := 0, slots := 0, locals := 0 } : Room) (ep_Pc G ep_cl h [.ref a0, .int x1, .int x2]) (ep_Qi G ep_cl res.2 res.1) 0 0 (ep_A G) := by
  refine Met.ofW (cc := cX0_sets) (maxL := 4) (ret := (some .int)) (by decide) rfl ?_
  intro p e s m args below meth c s₁ B hml hv
  obtain ⟨rfl, hR, hK, hZ⟩ := hv
  have hx := B.exec
  have hb := B.bytes
  have hr := B.returns
  have hlocks := B.notSynchronized
  have hts := atoms_spec (ws := (ws_ yX0_sets cX0_sets 4 (some .int))) B.pre
  have hts : ∀ w ∈ lw_all, w.before _ s = true := fun w h => hts w (List.mem_cons_of_mem _ h)
  have hown : s.vm.findClass RX0 = some m.cls := findClass_of_methodNamed B.named
  have hw : ep_W G ep_cl h s s.heap [] := ⟨hR, va_S.rf⟩
  have hl := lv_entry ([.ref a0, .int x1, .int x2]) (n := 4) (Nat.le_of_ble_eq_true rfl)
  rw [lg_entry_eq]
  generalize (lg_sl ([.ref a0, .int x1, .int x2]) ++ List.replicate (4 - (lg_sl ([.ref a0, .int x1, .int x2])).length) Slot.unset).toArray = ls at hl ⊢
  have hl : lv_has ls 4 [(0, .ref a0), (1, .int x1), (2, .int x2)] := hl
  unfold fX0_sets at hf
  show wX0_sets p l e s m below meth c G h a0 x1 x2 res 0 0 s.heap ([]) (F0 m 0 ls [])
  refine lv_aload_n hx hb dX0_sets_0 rfl (lv_at hl 0 rfl) ?_
  refine lv_iload_n hx hb dX0_sets_1 rfl (lv_at hl 1 rfl) ?_
  obtain ⟨v1, ev1, hf⟩ := ob_s hf
  refine ep_iald hx hb hK hw ev1 dX0_sets_2 ?_
  refine lv_istore_n (lv' := [(3, .int v1), (0, .ref a0), (1, .int x1), (2, .int x2)]) hx hb dX0_sets_3 rfl hl (by decide) rfl (fun ls hl => ?_)
  refine lv_aload_n hx hb dX0_sets_4 rfl (lv_at hl 1 rfl) ?_
  refine lv_iload_n hx hb dX0_sets_5 rfl (lv_at hl 2 rfl) ?_
  refine lv_iload_n hx hb dX0_sets_6 rfl (lv_at hl 3 rfl) ?_
  obtain ⟨h2, eh2, hf⟩ := ob_s hf
  refine ep_iast hx hb hK hw eh2 dX0_sets_7 (fun H locs hw => ?_)
  refine lv_iload_n hx hb dX0_sets_8 rfl (lv_at hl 0 rfl) ?_
  exact ep_retiW hx hb hr hlocks hw hf dX0_sets_9
theorem hdX0_fence : yX0_fence.cls = RX0 ∧ yX0_fence.cls ≠ "java/lang/invoke/MethodHandle" ∧ yX0_fence.cls ≠ "java/lang/invoke/VarHandle" ∧ (parseMethodDescriptor yX0_fence.desc).map (fun d => d.parameters.length) = some 3 := by decide +kernel
theorem ckX0_fence {h : Hp} {a0 : Nat} {x1 : Int32} {x2 : Int32} {x3 : Int32} {res : Int32 × Hp} (hf : fX0_fence h a0 x1 x2 x3 = some res) : ep_cls h a0 = some 0 := by
  unfold fX0_fence at hf
  exact (oi_c hf).1
abbrev wX0_fence (p : Program) (l : Launch) (e : Env) (s : State) (m : MethodId) (below : List Frame) (meth : Method) (c : Code) (G : EG) (h : Hp) (a0 : Nat) (x1 : Int32) (x2 : Int32) (x3 : Int32) (res : Int32 × Hp) (k9 n9 : Nat) (H : Heap) (locs : List Loc) (g : JFrame) : Prop := W p l e (headSpec (ws_ yX0_fence cX0_fence 4 (some .int)) ({ frames := 2, cells := 0, slots := 0, locals := 46 } : Room)).room s m ([.ref a0, .int x1, .int x2, .int x3] : List Value).toArray below meth c H locs k9 n9 (MQ below (ep_Qi G ep_cl res.2 res.1) ([.ref a0, .int x1, .int x2, .int x3] : List Value).toArray s 0 0 (ep_A G)) g
set_option maxHeartbeats 4000000 in
theorem metX0_fence (l : Launch) (G : EG) (h : Hp) (a0 : Nat) (x1 : Int32) (x2 : Int32) (x3 : Int32) {res : Int32 × Hp} (hf : fX0_fence h a0 x1 x2 x3 = some res) : Met l yX0_fence (ws_ yX0_fence cX0_fence 4 (some .int)) ({ frames := 2, cells := 0, slots := 0, locals := 46 } : Room) (ep_Pc G ep_cl h [.ref a0, .int x1, .int x2, .int x3]) (ep_Qi G ep_cl res.2 res.1) 0 0 (ep_A G) := by
  refine Met.ofW (cc := cX0_fence) (maxL := 4) (ret := (some .int)) (by decide) rfl ?_
  intro p e s m args below meth c s₁ B hml hv
  obtain ⟨rfl, hR, hK, hZ⟩ := hv
  have hx := B.exec
  have hb := B.bytes
  have hr := B.returns
  have hlocks := B.notSynchronized
  have hts := atoms_spec (ws := (ws_ yX0_fence cX0_fence 4 (some .int))) B.pre
  have hts : ∀ w ∈ lw_all, w.before _ s = true := fun w h => hts w (List.mem_cons_of_mem _ h)
  have hown : s.vm.findClass RX0 = some m.cls := findClass_of_methodNamed B.named
  have hw : ep_W G ep_cl h s s.heap [] := ⟨hR, va_S.rf⟩
  have hl := lv_entry ([.ref a0, .int x1, .int x2, .int x3]) (n := 4) (Nat.le_of_ble_eq_true rfl)
  rw [lg_entry_eq]
  generalize (lg_sl ([.ref a0, .int x1, .int x2, .int x3]) ++ List.replicate (4 - (lg_sl ([.ref a0, .int x1, .int x2, .int x3])).length) Slot.unset).toArray = ls at hl ⊢
  have hl : lv_has ls 4 [(0, .ref a0), (1, .int x1), (2, .int x2), (3, .int x3)] := hl
  unfold fX0_fence at hf
  have hf := (oi_c hf).2
  show wX0_fence p l e s m below meth c G h a0 x1 x2 x3 res 0 0 s.heap ([]) (F0 m 0 ls [])
  refine lv_aload_n hx hb dX0_fence_0 rfl (lv_at hl 0 rfl) ?_
  refine lv_iload_n hx hb dX0_fence_1 rfl (lv_at hl 1 rfl) ?_
  obtain ⟨v1, ev1, hf⟩ := ob_s hf
  refine ep_calli0 (va_runV (As := [.int x1]) (rest := []) ⟨hx, hb, hml, hown, hts⟩ (metX0_isPen l G h a0 x1 ev1) (cwV 1 hts (lw_V q565 q567 qs14 q85 q569) rfl rfl rfl hdX0_isPen ⟨Nat.le_of_ble_eq_true rfl, Nat.le_of_ble_eq_true rfl⟩) (ep_preV hK hZ hw rfl (ckX0_isPen ev1)) rfl rfl hl.1 rfl (lv_room (Nat.le_of_ble_eq_true rfl)) dX0_fence_2 ⟨Nat.le_of_ble_eq_true rfl, Nat.le_of_ble_eq_true rfl⟩) hw (fun H locs hw => ?_)
  refine lv_if_eq (tgt := 48) hx hb dX0_fence_5 (by decide) (fun c2 => ?_) (fun c2 => ?_)
  · have hf := oi_t hf c2
    refine lv_iconst (v := iI (-1)) hx hb dX0_fence_48 rfl ?_
    exact ep_retiW hx hb hr hlocks hw hf dX0_fence_49
  · have hf := oi_f hf c2
    refine lv_iload_n hx hb dX0_fence_8 rfl (lv_at hl 2 rfl) ?_
    refine lv_i2l (v := x2.toInt64) hx hb dX0_fence_9 rfl ?_
    refine lv_lconst (v := lI 0) hx hb dX0_fence_10 (by decide) ?_
    refine lv_lconst (v := lI 1) hx hb dX0_fence_11 (by decide) ?_
    obtain ⟨v3, ev3, hf⟩ := ob_s hf
    refine ep_calli0 (va_runS (As := [.long x2.toInt64, .long (lI 0), .long (lI 1)]) (rest := []) ⟨hx, hb, hml, hown, hts⟩ (metX0_isIn l G h x2.toInt64 (lI 0) (lI 1) ev3) (va_cwS 3 hts (lw_S q114 q115 q85 q116) rfl rfl rfl hsX0_isIn ⟨Nat.le_of_ble_eq_true rfl, Nat.le_of_ble_eq_true rfl⟩) (ep_preS hK hZ hw) rfl rfl hl.1 rfl (lv_room (Nat.le_of_ble_eq_true rfl)) dX0_fence_12 ⟨Nat.le_of_ble_eq_true rfl, Nat.le_of_ble_eq_true rfl⟩) hw (fun H locs hw => ?_)
    refine lv_if_eq (tgt := 48) hx hb dX0_fence_15 (by decide) (fun c4 => ?_) (fun c4 => ?_)
    · have hf := oi_t hf c4
      refine lv_iconst (v := iI (-1)) hx hb dX0_fence_48 rfl ?_
      exact ep_retiW hx hb hr hlocks hw hf dX0_fence_49
    · have hf := oi_f hf c4
      refine lv_iload_n hx hb dX0_fence_18 rfl (lv_at hl 3 rfl) ?_
      refine lv_i2l (v := x3.toInt64) hx hb dX0_fence_19 rfl ?_
      refine lv_iconst (v := iI 1) hx hb dX0_fence_20 rfl ?_
      refine lv_iload_n hx hb dX0_fence_21 rfl (lv_at hl 2 rfl) ?_
      refine lv_isub hx hb dX0_fence_22 ?_
      refine lv_i2l (v := ((iI 1) - x2).toInt64) hx hb dX0_fence_23 rfl ?_
      refine lv_iload_n hx hb dX0_fence_24 rfl (lv_at hl 2 rfl) ?_
      obtain ⟨o5, ho5, hf⟩ := ob_s hf
      have hJ5 : ∀ (H : Heap) (locs : List Loc) (ls : Array Slot), ep_W G ep_cl h s H locs → lv_has ls 4 [(0, .ref a0), (1, .int x1), (2, .int x2), (3, .int x3)] → wX0_fence p l e s m below meth c G h a0 x1 x2 x3 res 0 0 H locs (F0 m 42 ls [.long o5, .long (((iI 1) - x2).toInt64), .long x3.toInt64]) := by
        intro H locs ls hw hl
        obtain ⟨v8, ev8, hf⟩ := ob_s hf
        refine ep_calli0 (va_runS (As := [.long x3.toInt64, .long (((iI 1) - x2).toInt64), .long o5]) (rest := []) ⟨hx, hb, hml, hown, hts⟩ (metX0_isIn l G h x3.toInt64 (((iI 1) - x2).toInt64) o5 ev8) (va_cwS 3 hts (lw_S q114 q115 q85 q116) rfl rfl rfl hsX0_isIn ⟨Nat.le_of_ble_eq_true rfl, Nat.le_of_ble_eq_true rfl⟩) (ep_preS hK hZ hw) rfl rfl hl.1 rfl (lv_room (Nat.le_of_ble_eq_true rfl)) dX0_fence_42 ⟨Nat.le_of_ble_eq_true rfl, Nat.le_of_ble_eq_true rfl⟩) hw (fun H locs hw => ?_)
        refine lv_if_ne (tgt := 50) hx hb dX0_fence_45 (by decide) (fun c9 => ?_) (fun c9 => ?_)
        · have hf := oi_f hf c9
          refine lv_iload_n hx hb dX0_fence_50 rfl (lv_at hl 2 rfl) ?_
          obtain ⟨o10, ho10, hf⟩ := ob_s hf
          have hJ10 : ∀ (H : Heap) (locs : List Loc) (ls : Array Slot), ep_W G ep_cl h s H locs → lv_has ls 4 [(1, .int x1), (3, .int x3)] → wX0_fence p l e s m below meth c G h a0 x1 x2 x3 res 0 0 H locs (F0 m 71 ls [.ref o10]) := by
            intro H locs ls hw hl
            refine lv_iload_n hx hb dX0_fence_71 rfl (lv_at hl 0 rfl) ?_
            refine lv_iload_n hx hb dX0_fence_72 rfl (lv_at hl 1 rfl) ?_
            obtain ⟨o16, eo16, hf⟩ := ob_s hf
            refine ep_calli0 (va_runS (As := [.ref o10, .int x1, .int x3]) (rest := []) ⟨hx, hb, hml, hown, hts⟩ (metX0_sets l G h o10 x1 x3 eo16) (va_cwS 3 hts (lw_S q642 q643 q85 q644) rfl rfl rfl hsX0_sets ⟨Nat.le_of_ble_eq_true rfl, Nat.le_of_ble_eq_true rfl⟩) (ep_preS hK hZ hw) rfl rfl hl.1 rfl (lv_room (Nat.le_of_ble_eq_true rfl)) dX0_fence_73 ⟨Nat.le_of_ble_eq_true rfl, Nat.le_of_ble_eq_true rfl⟩) hw (fun H locs hw => ?_)
            exact ep_retiW hx hb hr hlocks hw hf dX0_fence_76
          refine lv_if_ne (tgt := 64) hx hb dX0_fence_51 (by decide) (fun c11 => ?_) (fun c11 => ?_)
          · have ho10 := oi_f ho10 c11
            refine lv_aload_n hx hb dX0_fence_64 rfl (lv_at hl 0 rfl) ?_
            obtain ⟨r12, er12, ho10⟩ := ob_s ho10
            refine ep_get (C := RX0) (T := TX0) (N := 25) (ci := 0) hx hb hts in_X0 hown hK hw rfl 3 (by decide) q930 (gR_f er12) dX0_fence_65 ?_
            obtain ⟨r13, er13, ho10⟩ := ob_s ho10
            refine ep_getN (C := RX1) (T := TX1) (N := 11) (ci := 1) hx hb hts in_X1 hown hK hw rfl 1 (by decide) q150 (gR_f er13) dX0_fence_68 ?_
            obtain rfl := Option.some.inj ho10
            exact hJ10 _ _ _ hw (lv_sub hl [1, 3] rfl)
          · have ho10 := oi_t ho10 c11
            refine lv_aload_n hx hb dX0_fence_54 rfl (lv_at hl 0 rfl) ?_
            obtain ⟨r14, er14, ho10⟩ := ob_s ho10
            refine ep_get (C := RX0) (T := TX0) (N := 25) (ci := 0) hx hb hts in_X0 hown hK hw rfl 3 (by decide) q930 (gR_f er14) dX0_fence_55 ?_
            obtain ⟨r15, er15, ho10⟩ := ob_s ho10
            refine ep_getN (C := RX1) (T := TX1) (N := 11) (ci := 1) hx hb hts in_X1 hown hK hw rfl 0 (by decide) q146 (gR_f er15) dX0_fence_58 ?_
            refine lv_goto (tgt := 71) hx hb dX0_fence_61 (by decide) ?_
            obtain rfl := Option.some.inj ho10
            exact hJ10 _ _ _ hw (lv_sub hl [1, 3] rfl)
        · have hf := oi_t hf c9
          refine lv_iconst (v := iI (-1)) hx hb dX0_fence_48 rfl ?_
          exact ep_retiW hx hb hr hlocks hw hf dX0_fence_49
      refine lv_if_ne (tgt := 34) hx hb dX0_fence_25 (by decide) (fun c6 => ?_) (fun c6 => ?_)
      · have ho5 := oi_f ho5 c6
        refine va_ldcS hx hb hown hZ.2.2.1 dX0_fence_34 ?_
        obtain ⟨v7, ev7, ho5⟩ := ob_s ho5
        refine ep_calli0 (va_runV (As := []) (rest := [.long (((iI 1) - x2).toInt64), .long x3.toInt64]) ⟨hx, hb, hml, hown, hts⟩ (metJ3_length l G h 0 ev7) (cwV 0 hts (lw_V q641 q362 q363 q96 q364) rfl rfl rfl hdJ3_length ⟨Nat.le_of_ble_eq_true rfl, Nat.le_of_ble_eq_true rfl⟩) (ep_preK (by decide) hK hZ hw) rfl rfl hl.1 rfl (lv_room (Nat.le_of_ble_eq_true rfl)) dX0_fence_36 ⟨Nat.le_of_ble_eq_true rfl, Nat.le_of_ble_eq_true rfl⟩) hw (fun H locs hw => ?_)
        refine lv_iconst (v := iI 1) hx hb dX0_fence_39 rfl ?_
        refine lv_isub hx hb dX0_fence_40 ?_
        refine lv_i2l (v := (v7 - (iI 1)).toInt64) hx hb dX0_fence_41 rfl ?_
        obtain rfl := Option.some.inj ho5
        exact hJ5 _ _ _ hw (lv_sub hl [0, 1, 2, 3] rfl)
      · have ho5 := oi_t ho5 c6
        refine lv_ldc2 (v := (9 : Int64)) hx hb hown (hts _ q639) dX0_fence_28 ?_
        refine lv_goto (tgt := 42) hx hb dX0_fence_31 (by decide) ?_
        obtain rfl := Option.some.inj ho5
        exact hJ5 _ _ _ hw (lv_sub hl [0, 1, 2, 3] rfl)
theorem hdX0_raise : yX0_raise.cls = RX0 ∧ yX0_raise.cls ≠ "java/lang/invoke/MethodHandle" ∧ yX0_raise.cls ≠ "java/lang/invoke/VarHandle" ∧ (parseMethodDescriptor yX0_raise.desc).map (fun d => d.parameters.length) = some 3 := by decide +kernel
theorem ckX0_raise {h : Hp} {a0 : Nat} {x1 : Int32} {x2 : Int32} {x3 : Int32} {res : Int32 × Hp} (hf : fX0_raise h a0 x1 x2 x3 = some res) : ep_cls h a0 = some 0 := by
  unfold fX0_raise at hf
  exact (oi_c hf).1
abbrev wX0_raise (p : Program) (l : Launch) (e : Env) (s : State) (m : MethodId) (below : List Frame) (meth : Method) (c : Code) (G : EG) (h : Hp) (a0 : Nat) (x1 : Int32) (x2 : Int32) (x3 : Int32) (res : Int32 × Hp) (k9 n9 : Nat) (H : Heap) (locs : List Loc) (g : JFrame) : Prop := W p l e (headSpec (ws_ yX0_raise cX0_raise 4 (some .int)) ({ frames := 2, cells := 0, slots := 0, locals := 46 } : Room)).room s m ([.ref a0, .int x1, .int x2, .int x3] : List Value).toArray below meth c H locs k9 n9 (MQ below (ep_Qi G ep_cl res.2 res.1) ([.ref a0, .int x1, .int x2, .int x3] : List Value).toArray s 0 0 (ep_A G)) g
set_option maxHeartbeats 4000000 in
theorem metX0_raise (l : Launch) (G : EG) (h : Hp) (a0 : Nat) (x1 : Int32) (x2 : Int32) (x3 : Int32) {res : Int32 × Hp} (hf : fX0_raise h a0 x1 x2 x3 = some res) : Met l yX0_raise (ws_ yX0_raise cX0_raise 4 (some .int)) ({ frames := 2, cells := 0, slots := 0, locals := 46 } : Room) (ep_Pc G ep_cl h [.ref a0, .int x1, .int x2, .int x3]) (ep_Qi G ep_cl res.2 res.1) 0 0 (ep_A G) := by
  refine Met.ofW (cc := cX0_raise) (maxL := 4) (ret := (some .int)) (by decide) rfl ?_
  intro p e s m args below meth c s₁ B hml hv
  obtain ⟨rfl, hR, hK, hZ⟩ := hv
  have hx := B.exec
  have hb := B.bytes
  have hr := B.returns
  have hlocks := B.notSynchronized
  have hts := atoms_spec (ws := (ws_ yX0_raise cX0_raise 4 (some .int))) B.pre
  have hts : ∀ w ∈ lw_all, w.before _ s = true := fun w h => hts w (List.mem_cons_of_mem _ h)
  have hown : s.vm.findClass RX0 = some m.cls := findClass_of_methodNamed B.named
  have hw : ep_W G ep_cl h s s.heap [] := ⟨hR, va_S.rf⟩
  have hl := lv_entry ([.ref a0, .int x1, .int x2, .int x3]) (n := 4) (Nat.le_of_ble_eq_true rfl)
  rw [lg_entry_eq]
  generalize (lg_sl ([.ref a0, .int x1, .int x2, .int x3]) ++ List.replicate (4 - (lg_sl ([.ref a0, .int x1, .int x2, .int x3])).length) Slot.unset).toArray = ls at hl ⊢
  have hl : lv_has ls 4 [(0, .ref a0), (1, .int x1), (2, .int x2), (3, .int x3)] := hl
  unfold fX0_raise at hf
  have hf := (oi_c hf).2
  show wX0_raise p l e s m below meth c G h a0 x1 x2 x3 res 0 0 s.heap ([]) (F0 m 0 ls [])
  refine lv_aload_n hx hb dX0_raise_0 rfl (lv_at hl 0 rfl) ?_
  refine lv_iload_n hx hb dX0_raise_1 rfl (lv_at hl 1 rfl) ?_
  obtain ⟨v1, ev1, hf⟩ := ob_s hf
  refine ep_calli0 (va_runV (As := [.int x1]) (rest := []) ⟨hx, hb, hml, hown, hts⟩ (metX0_isEcho l G h a0 x1 ev1) (cwV 1 hts (lw_V q575 q577 qs15 q85 q578) rfl rfl rfl hdX0_isEcho ⟨Nat.le_of_ble_eq_true rfl, Nat.le_of_ble_eq_true rfl⟩) (ep_preV hK hZ hw rfl (ckX0_isEcho ev1)) rfl rfl hl.1 rfl (lv_room (Nat.le_of_ble_eq_true rfl)) dX0_raise_2 ⟨Nat.le_of_ble_eq_true rfl, Nat.le_of_ble_eq_true rfl⟩) hw (fun H locs hw => ?_)
  refine lv_if_eq (tgt := 40) hx hb dX0_raise_5 (by decide) (fun c2 => ?_) (fun c2 => ?_)
  · have hf := oi_t hf c2
    refine lv_iconst (v := iI (-1)) hx hb dX0_raise_40 rfl ?_
    exact ep_retiW hx hb hr hlocks hw hf dX0_raise_41
  · have hf := oi_f hf c2
    refine lv_iload_n hx hb dX0_raise_8 rfl (lv_at hl 2 rfl) ?_
    refine lv_i2l (v := x2.toInt64) hx hb dX0_raise_9 rfl ?_
    refine lv_lconst (v := lI 0) hx hb dX0_raise_10 (by decide) ?_
    refine lv_lconst (v := lI 1) hx hb dX0_raise_11 (by decide) ?_
    obtain ⟨v3, ev3, hf⟩ := ob_s hf
    refine ep_calli0 (va_runS (As := [.long x2.toInt64, .long (lI 0), .long (lI 1)]) (rest := []) ⟨hx, hb, hml, hown, hts⟩ (metX0_isIn l G h x2.toInt64 (lI 0) (lI 1) ev3) (va_cwS 3 hts (lw_S q114 q115 q85 q116) rfl rfl rfl hsX0_isIn ⟨Nat.le_of_ble_eq_true rfl, Nat.le_of_ble_eq_true rfl⟩) (ep_preS hK hZ hw) rfl rfl hl.1 rfl (lv_room (Nat.le_of_ble_eq_true rfl)) dX0_raise_12 ⟨Nat.le_of_ble_eq_true rfl, Nat.le_of_ble_eq_true rfl⟩) hw (fun H locs hw => ?_)
    refine lv_if_eq (tgt := 40) hx hb dX0_raise_15 (by decide) (fun c4 => ?_) (fun c4 => ?_)
    · have hf := oi_t hf c4
      refine lv_iconst (v := iI (-1)) hx hb dX0_raise_40 rfl ?_
      exact ep_retiW hx hb hr hlocks hw hf dX0_raise_41
    · have hf := oi_f hf c4
      refine lv_iload_n hx hb dX0_raise_18 rfl (lv_at hl 3 rfl) ?_
      refine lv_i2l (v := x3.toInt64) hx hb dX0_raise_19 rfl ?_
      refine lv_lconst (v := lI 0) hx hb dX0_raise_20 (by decide) ?_
      refine lv_iload_n hx hb dX0_raise_21 rfl (lv_at hl 2 rfl) ?_
      have hJ5 : wX0_raise p l e s m below meth c G h a0 x1 x2 x3 res 0 0 H locs (F0 m 34 ls [.long (if x2 = 0 then (99 : Int64) else (3 : Int64)), .long (lI 0), .long x3.toInt64]) := by
        obtain ⟨v7, ev7, hf⟩ := ob_s hf
        refine ep_calli0 (va_runS (As := [.long x3.toInt64, .long (lI 0), .long (if x2 = 0 then (99 : Int64) else (3 : Int64))]) (rest := []) ⟨hx, hb, hml, hown, hts⟩ (metX0_isIn l G h x3.toInt64 (lI 0) (if x2 = 0 then (99 : Int64) else (3 : Int64)) ev7) (va_cwS 3 hts (lw_S q114 q115 q85 q116) rfl rfl rfl hsX0_isIn ⟨Nat.le_of_ble_eq_true rfl, Nat.le_of_ble_eq_true rfl⟩) (ep_preS hK hZ hw) rfl rfl hl.1 rfl (lv_room (Nat.le_of_ble_eq_true rfl)) dX0_raise_34 ⟨Nat.le_of_ble_eq_true rfl, Nat.le_of_ble_eq_true rfl⟩) hw (fun H locs hw => ?_)
        refine lv_if_ne (tgt := 42) hx hb dX0_raise_37 (by decide) (fun c8 => ?_) (fun c8 => ?_)
        · have hf := oi_f hf c8
          refine lv_iload_n hx hb dX0_raise_42 rfl (lv_at hl 2 rfl) ?_
          obtain ⟨o9, ho9, hf⟩ := ob_s hf
          have hJ9 : ∀ (H : Heap) (locs : List Loc) (ls : Array Slot), ep_W G ep_cl h s H locs → lv_has ls 4 [(1, .int x1), (3, .int x3)] → wX0_raise p l e s m below meth c G h a0 x1 x2 x3 res 0 0 H locs (F0 m 63 ls [.ref o9]) := by
            intro H locs ls hw hl
            refine lv_iload_n hx hb dX0_raise_63 rfl (lv_at hl 0 rfl) ?_
            refine lv_iload_n hx hb dX0_raise_64 rfl (lv_at hl 1 rfl) ?_
            obtain ⟨o15, eo15, hf⟩ := ob_s hf
            refine ep_calli0 (va_runS (As := [.ref o9, .int x1, .int x3]) (rest := []) ⟨hx, hb, hml, hown, hts⟩ (metX0_sets l G h o9 x1 x3 eo15) (va_cwS 3 hts (lw_S q642 q643 q85 q644) rfl rfl rfl hsX0_sets ⟨Nat.le_of_ble_eq_true rfl, Nat.le_of_ble_eq_true rfl⟩) (ep_preS hK hZ hw) rfl rfl hl.1 rfl (lv_room (Nat.le_of_ble_eq_true rfl)) dX0_raise_65 ⟨Nat.le_of_ble_eq_true rfl, Nat.le_of_ble_eq_true rfl⟩) hw (fun H locs hw => ?_)
            exact ep_retiW hx hb hr hlocks hw hf dX0_raise_68
          refine lv_if_ne (tgt := 56) hx hb dX0_raise_43 (by decide) (fun c10 => ?_) (fun c10 => ?_)
          · have ho9 := oi_f ho9 c10
            refine lv_aload_n hx hb dX0_raise_56 rfl (lv_at hl 0 rfl) ?_
            obtain ⟨r11, er11, ho9⟩ := ob_s ho9
            refine ep_get (C := RX0) (T := TX0) (N := 25) (ci := 0) hx hb hts in_X0 hown hK hw rfl 3 (by decide) q930 (gR_f er11) dX0_raise_57 ?_
            obtain ⟨r12, er12, ho9⟩ := ob_s ho9
            refine ep_getN (C := RX1) (T := TX1) (N := 11) (ci := 1) hx hb hts in_X1 hown hK hw rfl 2 (by decide) q153 (gR_f er12) dX0_raise_60 ?_
            obtain rfl := Option.some.inj ho9
            exact hJ9 _ _ _ hw (lv_sub hl [1, 3] rfl)
          · have ho9 := oi_t ho9 c10
            refine lv_aload_n hx hb dX0_raise_46 rfl (lv_at hl 0 rfl) ?_
            obtain ⟨r13, er13, ho9⟩ := ob_s ho9
            refine ep_get (C := RX0) (T := TX0) (N := 25) (ci := 0) hx hb hts in_X0 hown hK hw rfl 3 (by decide) q930 (gR_f er13) dX0_raise_47 ?_
            obtain ⟨r14, er14, ho9⟩ := ob_s ho9
            refine ep_getN (C := RX1) (T := TX1) (N := 11) (ci := 1) hx hb hts in_X1 hown hK hw rfl 5 (by decide) q162 (gR_f er14) dX0_raise_50 ?_
            refine lv_goto (tgt := 63) hx hb dX0_raise_53 (by decide) ?_
            obtain rfl := Option.some.inj ho9
            exact hJ9 _ _ _ hw (lv_sub hl [1, 3] rfl)
        · have hf := oi_t hf c8
          refine lv_iconst (v := iI (-1)) hx hb dX0_raise_40 rfl ?_
          exact ep_retiW hx hb hr hlocks hw hf dX0_raise_41
      refine lv_if_ne (tgt := 31) hx hb dX0_raise_22 (by decide) (fun c6 => ?_) (fun c6 => ?_)
      · refine lv_ldc2 (v := (3 : Int64)) hx hb hown (hts _ q650) dX0_raise_31 ?_
        rw [if_neg c6] at hJ5
        exact hJ5
      · refine lv_ldc2 (v := (99 : Int64)) hx hb hown (hts _ q649) dX0_raise_25 ?_
        refine lv_goto (tgt := 34) hx hb dX0_raise_28 (by decide) ?_
        rw [if_pos c6] at hJ5
        exact hJ5
theorem hdX0_clip : yX0_clip.cls = RX0 ∧ yX0_clip.cls ≠ "java/lang/invoke/MethodHandle" ∧ yX0_clip.cls ≠ "java/lang/invoke/VarHandle" ∧ (parseMethodDescriptor yX0_clip.desc).map (fun d => d.parameters.length) = some 1 := by decide +kernel
theorem ckX0_clip {h : Hp} {a0 : Nat} {x1 : Int32} {res : Int32 × Hp} (hf : fX0_clip h a0 x1 = some res) : ep_cls h a0 = some 0 := by
  unfold fX0_clip at hf
  exact (oi_c hf).1
abbrev wX0_clip (p : Program) (l : Launch) (e : Env) (s : State) (m : MethodId) (below : List Frame) (meth : Method) (c : Code) (G : EG) (h : Hp) (a0 : Nat) (x1 : Int32) (res : Int32 × Hp) (k9 n9 : Nat) (H : Heap) (locs : List Loc) (g : JFrame) : Prop := W p l e (headSpec (ws_ yX0_clip cX0_clip 2 (some .int)) ({ frames := 2, cells := 0, slots := 0, locals := 46 } : Room)).room s m ([.ref a0, .int x1] : List Value).toArray below meth c H locs k9 n9 (MQ below (ep_Qi G ep_cl res.2 res.1) ([.ref a0, .int x1] : List Value).toArray s 0 0 (ep_A G)) g
set_option maxHeartbeats 4000000 in
theorem metX0_clip (l : Launch) (G : EG) (h : Hp) (a0 : Nat) (x1 : Int32) {res : Int32 × Hp} (hf : fX0_clip h a0 x1 = some res) : Met l yX0_clip (ws_ yX0_clip cX0_clip 2 (some .int)) ({ frames := 2, cells := 0, slots := 0, locals := 46 } : Room) (ep_Pc G ep_cl h [.ref a0, .int x1]) (ep_Qi G ep_cl res.2 res.1) 0 0 (ep_A G) := by
  refine Met.ofW (cc := cX0_clip) (maxL := 2) (ret := (some .int)) (by decide) rfl ?_
  intro p e s m args below meth c s₁ B hml hv
  obtain ⟨rfl, hR, hK, hZ⟩ := hv
  have hx := B.exec
  have hb := B.bytes
  have hr := B.returns
  have hlocks := B.notSynchronized
  have hts := atoms_spec (ws := (ws_ yX0_clip cX0_clip 2 (some .int))) B.pre
  have hts : ∀ w ∈ lw_all, w.before _ s = true := fun w h => hts w (List.mem_cons_of_mem _ h)
  have hown : s.vm.findClass RX0 = some m.cls := findClass_of_methodNamed B.named
  have hw : ep_W G ep_cl h s s.heap [] := ⟨hR, va_S.rf⟩
  have hl := lv_entry ([.ref a0, .int x1]) (n := 2) (Nat.le_of_ble_eq_true rfl)
  rw [lg_entry_eq]
  generalize (lg_sl ([.ref a0, .int x1]) ++ List.replicate (2 - (lg_sl ([.ref a0, .int x1])).length) Slot.unset).toArray = ls at hl ⊢
  have hl : lv_has ls 2 [(0, .ref a0), (1, .int x1)] := hl
  unfold fX0_clip at hf
  have hf := (oi_c hf).2
  show wX0_clip p l e s m below meth c G h a0 x1 res 0 0 s.heap ([]) (F0 m 0 ls [])
  refine lv_aload_n hx hb dX0_clip_0 rfl (lv_at hl 0 rfl) ?_
  refine lv_iload_n hx hb dX0_clip_1 rfl (lv_at hl 1 rfl) ?_
  obtain ⟨v1, ev1, hf⟩ := ob_s hf
  refine ep_calli0 (va_runV (As := [.int x1]) (rest := []) ⟨hx, hb, hml, hown, hts⟩ (metX0_isEcho l G h a0 x1 ev1) (cwV 1 hts (lw_V q575 q577 qs15 q85 q578) rfl rfl rfl hdX0_isEcho ⟨Nat.le_of_ble_eq_true rfl, Nat.le_of_ble_eq_true rfl⟩) (ep_preV hK hZ hw rfl (ckX0_isEcho ev1)) rfl rfl hl.1 rfl (lv_room (Nat.le_of_ble_eq_true rfl)) dX0_clip_2 ⟨Nat.le_of_ble_eq_true rfl, Nat.le_of_ble_eq_true rfl⟩) hw (fun H locs hw => ?_)
  refine lv_if_ne (tgt := 10) hx hb dX0_clip_5 (by decide) (fun c2 => ?_) (fun c2 => ?_)
  · have hf := oi_f hf c2
    refine lv_aload_n hx hb dX0_clip_10 rfl (lv_at hl 0 rfl) ?_
    obtain ⟨r3, er3, hf⟩ := ob_s hf
    refine ep_get (C := RX0) (T := TX0) (N := 25) (ci := 0) hx hb hts in_X0 hown hK hw rfl 3 (by decide) q930 (gR_f er3) dX0_clip_11 ?_
    refine lv_iload_n hx hb dX0_clip_14 rfl (lv_at hl 1 rfl) ?_
    obtain ⟨v4, ev4, hf⟩ := ob_s hf
    refine ep_calli0 (va_runV (As := [.int x1]) (rest := []) ⟨hx, hb, hml, hown, hts⟩ (metX1_isSold l G h r3 x1 ev4) (cwV 1 hts (lw_V q655 q554 q555 q86 q556) rfl rfl rfl hdX1_isSold ⟨Nat.le_of_ble_eq_true rfl, Nat.le_of_ble_eq_true rfl⟩) (ep_preV hK hZ hw rfl (ckX1_isSold ev4)) rfl rfl hl.1 rfl (lv_room (Nat.le_of_ble_eq_true rfl)) dX0_clip_15 ⟨Nat.le_of_ble_eq_true rfl, Nat.le_of_ble_eq_true rfl⟩) hw (fun H locs hw => ?_)
    refine lv_if_ne (tgt := 33) hx hb dX0_clip_18 (by decide) (fun c5 => ?_) (fun c5 => ?_)
    · have hf := oi_f hf c5
      refine lv_bipush (v := iI (-2)) hx hb dX0_clip_33 (by decide) ?_
      exact ep_retiW hx hb hr hlocks hw hf dX0_clip_35
    · have hf := oi_t hf c5
      refine lv_aload_n hx hb dX0_clip_21 rfl (lv_at hl 0 rfl) ?_
      obtain ⟨r6, er6, hf⟩ := ob_s hf
      refine ep_get (C := RX0) (T := TX0) (N := 25) (ci := 0) hx hb hts in_X0 hown hK hw rfl 3 (by decide) q930 (gR_f er6) dX0_clip_22 ?_
      obtain ⟨r7, er7, hf⟩ := ob_s hf
      refine ep_getN (C := RX1) (T := TX1) (N := 11) (ci := 1) hx hb hts in_X1 hown hK hw rfl 4 (by decide) q159 (gR_f er7) dX0_clip_25 ?_
      refine lv_iload_n hx hb dX0_clip_28 rfl (lv_at hl 1 rfl) ?_
      obtain ⟨v8, ev8, hf⟩ := ob_s hf
      refine ep_iald hx hb hK hw ev8 dX0_clip_29 ?_
      refine lv_if_ne (tgt := 36) hx hb dX0_clip_30 (by decide) (fun c9 => ?_) (fun c9 => ?_)
      · have hf := oi_f hf c9
        refine lv_aload_n hx hb dX0_clip_36 rfl (lv_at hl 0 rfl) ?_
        obtain ⟨r10, er10, hf⟩ := ob_s hf
        refine ep_get (C := RX0) (T := TX0) (N := 25) (ci := 0) hx hb hts in_X0 hown hK hw rfl 3 (by decide) q930 (gR_f er10) dX0_clip_37 ?_
        obtain ⟨r11, er11, hf⟩ := ob_s hf
        refine ep_getN (C := RX1) (T := TX1) (N := 11) (ci := 1) hx hb hts in_X1 hown hK hw rfl 4 (by decide) q159 (gR_f er11) dX0_clip_40 ?_
        refine lv_iload_n hx hb dX0_clip_43 rfl (lv_at hl 1 rfl) ?_
        refine lv_dup2_11 hx hb dX0_clip_44 rfl rfl ?_
        obtain ⟨v12, ev12, hf⟩ := ob_s hf
        refine ep_iald hx hb hK hw ev12 dX0_clip_45 ?_
        refine lv_iconst (v := iI 1) hx hb dX0_clip_46 rfl ?_
        refine lv_isub hx hb dX0_clip_47 ?_
        obtain ⟨h13, eh13, hf⟩ := ob_s hf
        refine ep_iast hx hb hK hw eh13 dX0_clip_48 (fun H locs hw => ?_)
        refine lv_aload_n hx hb dX0_clip_49 rfl (lv_at hl 0 rfl) ?_
        obtain ⟨r14, er14, hf⟩ := ob_s hf
        refine ep_get (C := RX0) (T := TX0) (N := 25) (ci := 0) hx hb hts in_X0 hown hK hw rfl 3 (by decide) q930 (gR_f er14) dX0_clip_50 ?_
        obtain ⟨r15, er15, hf⟩ := ob_s hf
        refine ep_getN (C := RX1) (T := TX1) (N := 11) (ci := 1) hx hb hts in_X1 hown hK hw rfl 4 (by decide) q159 (gR_f er15) dX0_clip_53 ?_
        refine lv_iload_n hx hb dX0_clip_56 rfl (lv_at hl 1 rfl) ?_
        obtain ⟨v16, ev16, hf⟩ := ob_s hf
        refine ep_iald hx hb hK hw ev16 dX0_clip_57 ?_
        exact ep_retiW hx hb hr hlocks hw hf dX0_clip_58
      · have hf := oi_t hf c9
        refine lv_bipush (v := iI (-2)) hx hb dX0_clip_33 (by decide) ?_
        exact ep_retiW hx hb hr hlocks hw hf dX0_clip_35
  · have hf := oi_t hf c2
    refine lv_iconst (v := iI (-1)) hx hb dX0_clip_8 rfl ?_
    exact ep_retiW hx hb hr hlocks hw hf dX0_clip_9
theorem hdX0_teach : yX0_teach.cls = RX0 ∧ yX0_teach.cls ≠ "java/lang/invoke/MethodHandle" ∧ yX0_teach.cls ≠ "java/lang/invoke/VarHandle" ∧ (parseMethodDescriptor yX0_teach.desc).map (fun d => d.parameters.length) = some 2 := by decide +kernel
theorem ckX0_teach {h : Hp} {a0 : Nat} {x1 : Int32} {x2 : Int32} {res : Int32 × Hp} (hf : fX0_teach h a0 x1 x2 = some res) : ep_cls h a0 = some 0 := by
  unfold fX0_teach at hf
  exact (oi_c hf).1
abbrev wX0_teach (p : Program) (l : Launch) (e : Env) (s : State) (m : MethodId) (below : List Frame) (meth : Method) (c : Code) (G : EG) (h : Hp) (a0 : Nat) (x1 : Int32) (x2 : Int32) (res : Int32 × Hp) (k9 n9 : Nat) (H : Heap) (locs : List Loc) (g : JFrame) : Prop := W p l e (headSpec (ws_ yX0_teach cX0_teach 3 (some .int)) ({ frames := 2, cells := 0, slots := 0, locals := 46 } : Room)).room s m ([.ref a0, .int x1, .int x2] : List Value).toArray below meth c H locs k9 n9 (MQ below (ep_Qi G ep_cl res.2 res.1) ([.ref a0, .int x1, .int x2] : List Value).toArray s 0 0 (ep_A G)) g
set_option maxHeartbeats 4000000 in
theorem metX0_teach (l : Launch) (G : EG) (h : Hp) (a0 : Nat) (x1 : Int32) (x2 : Int32) {res : Int32 × Hp} (hf : fX0_teach h a0 x1 x2 = some res) : Met l yX0_teach (ws_ yX0_teach cX0_teach 3 (some .int)) ({ frames := 2, cells := 0, slots := 0, locals := 46 } : Room) (ep_Pc G ep_cl h [.ref a0, .int x1, .int x2]) (ep_Qi G ep_cl res.2 res.1) 0 0 (ep_A G) := by
  refine Met.ofW (cc := cX0_teach) (maxL := 3) (ret := (some .int)) (by decide) rfl ?_
  intro p e s m args below meth c s₁ B hml hv
  obtain ⟨rfl, hR, hK, hZ⟩ := hv
  have hx := B.exec
  have hb := B.bytes
  have hr := B.returns
  have hlocks := B.notSynchronized
  have hts := atoms_spec (ws := (ws_ yX0_teach cX0_teach 3 (some .int))) B.pre
  have hts : ∀ w ∈ lw_all, w.before _ s = true := fun w h => hts w (List.mem_cons_of_mem _ h)
  have hown : s.vm.findClass RX0 = some m.cls := findClass_of_methodNamed B.named
  have hw : ep_W G ep_cl h s s.heap [] := ⟨hR, va_S.rf⟩
  have hl := lv_entry ([.ref a0, .int x1, .int x2]) (n := 3) (Nat.le_of_ble_eq_true rfl)
  rw [lg_entry_eq]
  generalize (lg_sl ([.ref a0, .int x1, .int x2]) ++ List.replicate (3 - (lg_sl ([.ref a0, .int x1, .int x2])).length) Slot.unset).toArray = ls at hl ⊢
  have hl : lv_has ls 3 [(0, .ref a0), (1, .int x1), (2, .int x2)] := hl
  unfold fX0_teach at hf
  have hf := (oi_c hf).2
  show wX0_teach p l e s m below meth c G h a0 x1 x2 res 0 0 s.heap ([]) (F0 m 0 ls [])
  refine lv_aload_n hx hb dX0_teach_0 rfl (lv_at hl 0 rfl) ?_
  refine lv_iload_n hx hb dX0_teach_1 rfl (lv_at hl 1 rfl) ?_
  obtain ⟨v1, ev1, hf⟩ := ob_s hf
  refine ep_calli0 (va_runV (As := [.int x1]) (rest := []) ⟨hx, hb, hml, hown, hts⟩ (metX0_isEcho l G h a0 x1 ev1) (cwV 1 hts (lw_V q575 q577 qs15 q85 q578) rfl rfl rfl hdX0_isEcho ⟨Nat.le_of_ble_eq_true rfl, Nat.le_of_ble_eq_true rfl⟩) (ep_preV hK hZ hw rfl (ckX0_isEcho ev1)) rfl rfl hl.1 rfl (lv_room (Nat.le_of_ble_eq_true rfl)) dX0_teach_2 ⟨Nat.le_of_ble_eq_true rfl, Nat.le_of_ble_eq_true rfl⟩) hw (fun H locs hw => ?_)
  refine lv_if_eq (tgt := 22) hx hb dX0_teach_5 (by decide) (fun c2 => ?_) (fun c2 => ?_)
  · have hf := oi_t hf c2
    refine lv_iconst (v := iI (-1)) hx hb dX0_teach_22 rfl ?_
    exact ep_retiW hx hb hr hlocks hw hf dX0_teach_23
  · have hf := oi_f hf c2
    refine lv_iload_n hx hb dX0_teach_8 rfl (lv_at hl 2 rfl) ?_
    refine lv_i2l (v := x2.toInt64) hx hb dX0_teach_9 rfl ?_
    refine lv_ldc2 (v := (97 : Int64)) hx hb hown (hts _ q660) dX0_teach_10 ?_
    refine lv_ldc2 (v := (122 : Int64)) hx hb hown (hts _ q661) dX0_teach_13 ?_
    obtain ⟨v3, ev3, hf⟩ := ob_s hf
    refine ep_calli0 (va_runS (As := [.long x2.toInt64, .long (97 : Int64), .long (122 : Int64)]) (rest := []) ⟨hx, hb, hml, hown, hts⟩ (metX0_isIn l G h x2.toInt64 (97 : Int64) (122 : Int64) ev3) (va_cwS 3 hts (lw_S q114 q115 q85 q116) rfl rfl rfl hsX0_isIn ⟨Nat.le_of_ble_eq_true rfl, Nat.le_of_ble_eq_true rfl⟩) (ep_preS hK hZ hw) rfl rfl hl.1 rfl (lv_room (Nat.le_of_ble_eq_true rfl)) dX0_teach_16 ⟨Nat.le_of_ble_eq_true rfl, Nat.le_of_ble_eq_true rfl⟩) hw (fun H locs hw => ?_)
    refine lv_if_ne (tgt := 24) hx hb dX0_teach_19 (by decide) (fun c4 => ?_) (fun c4 => ?_)
    · have hf := oi_f hf c4
      refine lv_aload_n hx hb dX0_teach_24 rfl (lv_at hl 0 rfl) ?_
      obtain ⟨r5, er5, hf⟩ := ob_s hf
      refine ep_get (C := RX0) (T := TX0) (N := 25) (ci := 0) hx hb hts in_X0 hown hK hw rfl 3 (by decide) q930 (gR_f er5) dX0_teach_25 ?_
      refine lv_iload_n hx hb dX0_teach_28 rfl (lv_at hl 1 rfl) ?_
      obtain ⟨v6, ev6, hf⟩ := ob_s hf
      refine ep_calli0 (va_runV (As := [.int x1]) (rest := []) ⟨hx, hb, hml, hown, hts⟩ (metX1_isSold l G h r5 x1 ev6) (cwV 1 hts (lw_V q655 q554 q555 q86 q556) rfl rfl rfl hdX1_isSold ⟨Nat.le_of_ble_eq_true rfl, Nat.le_of_ble_eq_true rfl⟩) (ep_preV hK hZ hw rfl (ckX1_isSold ev6)) rfl rfl hl.1 rfl (lv_room (Nat.le_of_ble_eq_true rfl)) dX0_teach_29 ⟨Nat.le_of_ble_eq_true rfl, Nat.le_of_ble_eq_true rfl⟩) hw (fun H locs hw => ?_)
      refine lv_if_eq (tgt := 38) hx hb dX0_teach_32 (by decide) (fun c7 => ?_) (fun c7 => ?_)
      · have hf := oi_t hf c7
        refine lv_aload_n hx hb dX0_teach_38 rfl (lv_at hl 0 rfl) ?_
        obtain ⟨r8, er8, hf⟩ := ob_s hf
        refine ep_get (C := RX0) (T := TX0) (N := 25) (ci := 0) hx hb hts in_X0 hown hK hw rfl 3 (by decide) q930 (gR_f er8) dX0_teach_39 ?_
        obtain ⟨r9, er9, hf⟩ := ob_s hf
        refine ep_getN (C := RX1) (T := TX1) (N := 11) (ci := 1) hx hb hts in_X1 hown hK hw rfl 4 (by decide) q159 (gR_f er9) dX0_teach_42 ?_
        refine lv_iload_n hx hb dX0_teach_45 rfl (lv_at hl 1 rfl) ?_
        obtain ⟨v10, ev10, hf⟩ := ob_s hf
        refine ep_iald hx hb hK hw ev10 dX0_teach_46 ?_
        refine lv_iconst (v := iI 5) hx hb dX0_teach_47 rfl ?_
        refine lv_icmp_ne (tgt := 54) hx hb dX0_teach_48 (by decide) (fun c11 => ?_) (fun c11 => ?_)
        · have hf := oi_f hf c11
          refine lv_aload_n hx hb dX0_teach_54 rfl (lv_at hl 0 rfl) ?_
          obtain ⟨r12, er12, hf⟩ := ob_s hf
          refine ep_get (C := RX0) (T := TX0) (N := 25) (ci := 0) hx hb hts in_X0 hown hK hw rfl 3 (by decide) q930 (gR_f er12) dX0_teach_55 ?_
          obtain ⟨r13, er13, hf⟩ := ob_s hf
          refine ep_getN (C := RX1) (T := TX1) (N := 11) (ci := 1) hx hb hts in_X1 hown hK hw rfl 3 (by decide) q156 (gR_f er13) dX0_teach_58 ?_
          refine lv_iload_n hx hb dX0_teach_61 rfl (lv_at hl 1 rfl) ?_
          obtain ⟨v14, ev14, hf⟩ := ob_s hf
          refine ep_aald 4 (by decide) rfl hx hb hK hw ev14 dX0_teach_62 ?_
          refine lv_aload_n hx hb dX0_teach_63 rfl (lv_at hl 0 rfl) ?_
          obtain ⟨r15, er15, hf⟩ := ob_s hf
          refine ep_get (C := RX0) (T := TX0) (N := 25) (ci := 0) hx hb hts in_X0 hown hK hw rfl 3 (by decide) q930 (gR_f er15) dX0_teach_64 ?_
          obtain ⟨r16, er16, hf⟩ := ob_s hf
          refine ep_getN (C := RX1) (T := TX1) (N := 11) (ci := 1) hx hb hts in_X1 hown hK hw rfl 4 (by decide) q159 (gR_f er16) dX0_teach_67 ?_
          refine lv_iload_n hx hb dX0_teach_70 rfl (lv_at hl 1 rfl) ?_
          obtain ⟨v17, ev17, hf⟩ := ob_s hf
          refine ep_iald hx hb hK hw ev17 dX0_teach_71 ?_
          refine lv_iload_n hx hb dX0_teach_72 rfl (lv_at hl 2 rfl) ?_
          refine lv_i2b (v := x2.toInt8.toInt32) hx hb dX0_teach_73 rfl ?_
          obtain ⟨h18, eh18, hf⟩ := ob_s hf
          refine ep_bast hx hb hK hw eh18 dX0_teach_74 (fun H locs hw => ?_)
          refine lv_aload_n hx hb dX0_teach_75 rfl (lv_at hl 0 rfl) ?_
          obtain ⟨r19, er19, hf⟩ := ob_s hf
          refine ep_get (C := RX0) (T := TX0) (N := 25) (ci := 0) hx hb hts in_X0 hown hK hw rfl 3 (by decide) q930 (gR_f er19) dX0_teach_76 ?_
          obtain ⟨r20, er20, hf⟩ := ob_s hf
          refine ep_getN (C := RX1) (T := TX1) (N := 11) (ci := 1) hx hb hts in_X1 hown hK hw rfl 4 (by decide) q159 (gR_f er20) dX0_teach_79 ?_
          refine lv_iload_n hx hb dX0_teach_82 rfl (lv_at hl 1 rfl) ?_
          refine lv_dup2_11 hx hb dX0_teach_83 rfl rfl ?_
          obtain ⟨v21, ev21, hf⟩ := ob_s hf
          refine ep_iald hx hb hK hw ev21 dX0_teach_84 ?_
          refine lv_iconst (v := iI 1) hx hb dX0_teach_85 rfl ?_
          refine lv_iadd hx hb dX0_teach_86 ?_
          obtain ⟨h22, eh22, hf⟩ := ob_s hf
          refine ep_iast hx hb hK hw eh22 dX0_teach_87 (fun H locs hw => ?_)
          refine lv_aload_n hx hb dX0_teach_88 rfl (lv_at hl 0 rfl) ?_
          obtain ⟨r23, er23, hf⟩ := ob_s hf
          refine ep_get (C := RX0) (T := TX0) (N := 25) (ci := 0) hx hb hts in_X0 hown hK hw rfl 3 (by decide) q930 (gR_f er23) dX0_teach_89 ?_
          obtain ⟨r24, er24, hf⟩ := ob_s hf
          refine ep_getN (C := RX1) (T := TX1) (N := 11) (ci := 1) hx hb hts in_X1 hown hK hw rfl 4 (by decide) q159 (gR_f er24) dX0_teach_92 ?_
          refine lv_iload_n hx hb dX0_teach_95 rfl (lv_at hl 1 rfl) ?_
          obtain ⟨v25, ev25, hf⟩ := ob_s hf
          refine ep_iald hx hb hK hw ev25 dX0_teach_96 ?_
          exact ep_retiW hx hb hr hlocks hw hf dX0_teach_97
        · have hf := oi_t hf c11
          refine lv_bipush (v := iI (-3)) hx hb dX0_teach_51 (by decide) ?_
          exact ep_retiW hx hb hr hlocks hw hf dX0_teach_53
      · have hf := oi_f hf c7
        refine lv_bipush (v := iI (-2)) hx hb dX0_teach_35 (by decide) ?_
        exact ep_retiW hx hb hr hlocks hw hf dX0_teach_37
    · have hf := oi_t hf c4
      refine lv_iconst (v := iI (-1)) hx hb dX0_teach_22 rfl ?_
      exact ep_retiW hx hb hr hlocks hw hf dX0_teach_23
theorem hdX0_cross : yX0_cross.cls = RX0 ∧ yX0_cross.cls ≠ "java/lang/invoke/MethodHandle" ∧ yX0_cross.cls ≠ "java/lang/invoke/VarHandle" ∧ (parseMethodDescriptor yX0_cross.desc).map (fun d => d.parameters.length) = some 2 := by decide +kernel
theorem ckX0_cross {h : Hp} {a0 : Nat} {x1 : Int32} {x2 : Int32} {res : Int32 × Hp} (hf : fX0_cross h a0 x1 x2 = some res) : ep_cls h a0 = some 0 := by
  unfold fX0_cross at hf
  exact (oi_c hf).1
abbrev wX0_cross (p : Program) (l : Launch) (e : Env) (s : State) (m : MethodId) (below : List Frame) (meth : Method) (c : Code) (G : EG) (h : Hp) (a0 : Nat) (x1 : Int32) (x2 : Int32) (res : Int32 × Hp) (k9 n9 : Nat) (H : Heap) (locs : List Loc) (g : JFrame) : Prop := W p l e (headSpec (ws_ yX0_cross cX0_cross 4 (some .int)) ({ frames := 2, cells := 0, slots := 0, locals := 46 } : Room)).room s m ([.ref a0, .int x1, .int x2] : List Value).toArray below meth c H locs k9 n9 (MQ below (ep_Qi G ep_cl res.2 res.1) ([.ref a0, .int x1, .int x2] : List Value).toArray s 0 0 (ep_A G)) g
set_option maxHeartbeats 4000000 in
theorem metX0_cross (l : Launch) (G : EG) (h : Hp) (a0 : Nat) (x1 : Int32) (x2 : Int32) {res : Int32 × Hp} (hf : fX0_cross h a0 x1 x2 = some res) : Met l yX0_cross (ws_ yX0_cross cX0_cross 4 (some .int)) ({ frames := 2, cells := 0, slots := 0, locals := 46 } : Room) (ep_Pc G ep_cl h [.ref a0, .int x1, .int x2]) (ep_Qi G ep_cl res.2 res.1) 0 0 (ep_A G) := by
  refine Met.ofW (cc := cX0_cross) (maxL := 4) (ret := (some .int)) (by decide) rfl ?_
  intro p e s m args below meth c s₁ B hml hv
  obtain ⟨rfl, hR, hK, hZ⟩ := hv
  have hx := B.exec
  have hb := B.bytes
  have hr := B.returns
  have hlocks := B.notSynchronized
  have hts := atoms_spec (ws := (ws_ yX0_cross cX0_cross 4 (some .int))) B.pre
  have hts : ∀ w ∈ lw_all, w.before _ s = true := fun w h => hts w (List.mem_cons_of_mem _ h)
  have hown : s.vm.findClass RX0 = some m.cls := findClass_of_methodNamed B.named
  have hw : ep_W G ep_cl h s s.heap [] := ⟨hR, va_S.rf⟩
  have hl := lv_entry ([.ref a0, .int x1, .int x2]) (n := 4) (Nat.le_of_ble_eq_true rfl)
  rw [lg_entry_eq]
  generalize (lg_sl ([.ref a0, .int x1, .int x2]) ++ List.replicate (4 - (lg_sl ([.ref a0, .int x1, .int x2])).length) Slot.unset).toArray = ls at hl ⊢
  have hl : lv_has ls 4 [(0, .ref a0), (1, .int x1), (2, .int x2)] := hl
  unfold fX0_cross at hf
  have hf := (oi_c hf).2
  show wX0_cross p l e s m below meth c G h a0 x1 x2 res 0 0 s.heap ([]) (F0 m 0 ls [])
  refine lv_aload_n hx hb dX0_cross_0 rfl (lv_at hl 0 rfl) ?_
  refine lv_iload_n hx hb dX0_cross_1 rfl (lv_at hl 1 rfl) ?_
  obtain ⟨v1, ev1, hf⟩ := ob_s hf
  refine ep_calli0 (va_runV (As := [.int x1]) (rest := []) ⟨hx, hb, hml, hown, hts⟩ (metX0_isEcho l G h a0 x1 ev1) (cwV 1 hts (lw_V q575 q577 qs15 q85 q578) rfl rfl rfl hdX0_isEcho ⟨Nat.le_of_ble_eq_true rfl, Nat.le_of_ble_eq_true rfl⟩) (ep_preV hK hZ hw rfl (ckX0_isEcho ev1)) rfl rfl hl.1 rfl (lv_room (Nat.le_of_ble_eq_true rfl)) dX0_cross_2 ⟨Nat.le_of_ble_eq_true rfl, Nat.le_of_ble_eq_true rfl⟩) hw (fun H locs hw => ?_)
  refine lv_if_eq (tgt := 21) hx hb dX0_cross_5 (by decide) (fun c2 => ?_) (fun c2 => ?_)
  · have hf := oi_t hf c2
    refine lv_iconst (v := iI (-1)) hx hb dX0_cross_21 rfl ?_
    exact ep_retiW hx hb hr hlocks hw hf dX0_cross_22
  · have hf := oi_f hf c2
    refine lv_aload_n hx hb dX0_cross_8 rfl (lv_at hl 0 rfl) ?_
    refine lv_iload_n hx hb dX0_cross_9 rfl (lv_at hl 2 rfl) ?_
    obtain ⟨v3, ev3, hf⟩ := ob_s hf
    refine ep_calli0 (va_runV (As := [.int x2]) (rest := []) ⟨hx, hb, hml, hown, hts⟩ (metX0_isEcho l G h a0 x2 ev3) (cwV 1 hts (lw_V q575 q577 qs15 q85 q578) rfl rfl rfl hdX0_isEcho ⟨Nat.le_of_ble_eq_true rfl, Nat.le_of_ble_eq_true rfl⟩) (ep_preV hK hZ hw rfl (ckX0_isEcho ev3)) rfl rfl hl.1 rfl (lv_room (Nat.le_of_ble_eq_true rfl)) dX0_cross_10 ⟨Nat.le_of_ble_eq_true rfl, Nat.le_of_ble_eq_true rfl⟩) hw (fun H locs hw => ?_)
    refine lv_if_eq (tgt := 21) hx hb dX0_cross_13 (by decide) (fun c4 => ?_) (fun c4 => ?_)
    · have hf := oi_t hf c4
      refine lv_iconst (v := iI (-1)) hx hb dX0_cross_21 rfl ?_
      exact ep_retiW hx hb hr hlocks hw hf dX0_cross_22
    · have hf := oi_f hf c4
      refine lv_iload_n hx hb dX0_cross_16 rfl (lv_at hl 1 rfl) ?_
      refine lv_iload_n hx hb dX0_cross_17 rfl (lv_at hl 2 rfl) ?_
      refine lv_icmp_ne (tgt := 23) hx hb dX0_cross_18 (by decide) (fun c5 => ?_) (fun c5 => ?_)
      · have hf := oi_f hf c5
        refine lv_aload_n hx hb dX0_cross_23 rfl (lv_at hl 0 rfl) ?_
        obtain ⟨r6, er6, hf⟩ := ob_s hf
        refine ep_get (C := RX0) (T := TX0) (N := 25) (ci := 0) hx hb hts in_X0 hown hK hw rfl 3 (by decide) q930 (gR_f er6) dX0_cross_24 ?_
        refine lv_iload_n hx hb dX0_cross_27 rfl (lv_at hl 1 rfl) ?_
        obtain ⟨v7, ev7, hf⟩ := ob_s hf
        refine ep_calli0 (va_runV (As := [.int x1]) (rest := []) ⟨hx, hb, hml, hown, hts⟩ (metX1_isSold l G h r6 x1 ev7) (cwV 1 hts (lw_V q655 q554 q555 q86 q556) rfl rfl rfl hdX1_isSold ⟨Nat.le_of_ble_eq_true rfl, Nat.le_of_ble_eq_true rfl⟩) (ep_preV hK hZ hw rfl (ckX1_isSold ev7)) rfl rfl hl.1 rfl (lv_room (Nat.le_of_ble_eq_true rfl)) dX0_cross_28 ⟨Nat.le_of_ble_eq_true rfl, Nat.le_of_ble_eq_true rfl⟩) hw (fun H locs hw => ?_)
        refine lv_if_ne (tgt := 55) hx hb dX0_cross_31 (by decide) (fun c8 => ?_) (fun c8 => ?_)
        · have hf := oi_f hf c8
          refine lv_bipush (v := iI (-2)) hx hb dX0_cross_55 (by decide) ?_
          exact ep_retiW hx hb hr hlocks hw hf dX0_cross_57
        · have hf := oi_t hf c8
          refine lv_aload_n hx hb dX0_cross_34 rfl (lv_at hl 0 rfl) ?_
          obtain ⟨r9, er9, hf⟩ := ob_s hf
          refine ep_get (C := RX0) (T := TX0) (N := 25) (ci := 0) hx hb hts in_X0 hown hK hw rfl 3 (by decide) q930 (gR_f er9) dX0_cross_35 ?_
          obtain ⟨r10, er10, hf⟩ := ob_s hf
          refine ep_getN (C := RX1) (T := TX1) (N := 11) (ci := 1) hx hb hts in_X1 hown hK hw rfl 6 (by decide) q165 (gR_f er10) dX0_cross_38 ?_
          refine lv_iload_n hx hb dX0_cross_41 rfl (lv_at hl 1 rfl) ?_
          obtain ⟨v11, ev11, hf⟩ := ob_s hf
          refine ep_iald hx hb hK hw ev11 dX0_cross_42 ?_
          refine lv_aload_n hx hb dX0_cross_43 rfl (lv_at hl 0 rfl) ?_
          obtain ⟨r12, er12, hf⟩ := ob_s hf
          refine ep_get (C := RX0) (T := TX0) (N := 25) (ci := 0) hx hb hts in_X0 hown hK hw rfl 3 (by decide) q930 (gR_f er12) dX0_cross_44 ?_
          obtain ⟨r13, er13, hf⟩ := ob_s hf
          refine ep_getN (C := RX1) (T := TX1) (N := 11) (ci := 1) hx hb hts in_X1 hown hK hw rfl 6 (by decide) q165 (gR_f er13) dX0_cross_47 ?_
          refine lv_iload_n hx hb dX0_cross_50 rfl (lv_at hl 2 rfl) ?_
          obtain ⟨v14, ev14, hf⟩ := ob_s hf
          refine ep_iald hx hb hK hw ev14 dX0_cross_51 ?_
          refine lv_icmp_eq (tgt := 58) hx hb dX0_cross_52 (by decide) (fun c15 => ?_) (fun c15 => ?_)
          · have hf := oi_t hf c15
            refine lv_aload_n hx hb dX0_cross_58 rfl (lv_at hl 0 rfl) ?_
            obtain ⟨r16, er16, hf⟩ := ob_s hf
            refine ep_get (C := RX0) (T := TX0) (N := 25) (ci := 0) hx hb hts in_X0 hown hK hw rfl 3 (by decide) q930 (gR_f er16) dX0_cross_59 ?_
            obtain ⟨r17, er17, hf⟩ := ob_s hf
            refine ep_getN (C := RX1) (T := TX1) (N := 11) (ci := 1) hx hb hts in_X1 hown hK hw rfl 3 (by decide) q156 (gR_f er17) dX0_cross_62 ?_
            refine lv_iload_n hx hb dX0_cross_65 rfl (lv_at hl 1 rfl) ?_
            obtain ⟨v18, ev18, hf⟩ := ob_s hf
            refine ep_aald 4 (by decide) rfl hx hb hK hw ev18 dX0_cross_66 ?_
            refine lv_astore_n (lv' := [(3, .ref v18), (0, .ref a0), (1, .int x1), (2, .int x2)]) hx hb dX0_cross_67 rfl hl (by decide) rfl (fun ls hl => ?_)
            refine lv_aload_n hx hb dX0_cross_68 rfl (lv_at hl 1 rfl) ?_
            obtain ⟨r19, er19, hf⟩ := ob_s hf
            refine ep_get (C := RX0) (T := TX0) (N := 25) (ci := 0) hx hb hts in_X0 hown hK hw rfl 3 (by decide) q930 (gR_f er19) dX0_cross_69 ?_
            obtain ⟨r20, er20, hf⟩ := ob_s hf
            refine ep_getN (C := RX1) (T := TX1) (N := 11) (ci := 1) hx hb hts in_X1 hown hK hw rfl 3 (by decide) q156 (gR_f er20) dX0_cross_72 ?_
            refine lv_iload_n hx hb dX0_cross_75 rfl (lv_at hl 2 rfl) ?_
            refine lv_aload_n hx hb dX0_cross_76 rfl (lv_at hl 1 rfl) ?_
            obtain ⟨r21, er21, hf⟩ := ob_s hf
            refine ep_get (C := RX0) (T := TX0) (N := 25) (ci := 0) hx hb hts in_X0 hown hK hw rfl 3 (by decide) q930 (gR_f er21) dX0_cross_77 ?_
            obtain ⟨r22, er22, hf⟩ := ob_s hf
            refine ep_getN (C := RX1) (T := TX1) (N := 11) (ci := 1) hx hb hts in_X1 hown hK hw rfl 3 (by decide) q156 (gR_f er22) dX0_cross_80 ?_
            refine lv_iload_n hx hb dX0_cross_83 rfl (lv_at hl 3 rfl) ?_
            obtain ⟨v23, ev23, hf⟩ := ob_s hf
            refine ep_aald 4 (by decide) rfl hx hb hK hw ev23 dX0_cross_84 ?_
            obtain ⟨h24, eh24, hf⟩ := ob_s hf
            refine ep_aastA 4 1 (ty := .byte) hx hb (by decide) (by decide) rfl rfl (fun _ _ => rfl) rfl hK.2.2.2.2.1 hK hw eh24 dX0_cross_85 (fun H locs hw => ?_)
            refine lv_aload_n hx hb dX0_cross_86 rfl (lv_at hl 1 rfl) ?_
            obtain ⟨r25, er25, hf⟩ := ob_s hf
            refine ep_get (C := RX0) (T := TX0) (N := 25) (ci := 0) hx hb hts in_X0 hown hK hw rfl 3 (by decide) q930 (gR_f er25) dX0_cross_87 ?_
            obtain ⟨r26, er26, hf⟩ := ob_s hf
            refine ep_getN (C := RX1) (T := TX1) (N := 11) (ci := 1) hx hb hts in_X1 hown hK hw rfl 3 (by decide) q156 (gR_f er26) dX0_cross_90 ?_
            refine lv_iload_n hx hb dX0_cross_93 rfl (lv_at hl 3 rfl) ?_
            refine lv_aload_n hx hb dX0_cross_94 rfl (lv_at hl 0 rfl) ?_
            obtain ⟨h27, eh27, hf⟩ := ob_s hf
            refine ep_aastA 4 1 (ty := .byte) hx hb (by decide) (by decide) rfl rfl (fun _ _ => rfl) rfl hK.2.2.2.2.1 hK hw eh27 dX0_cross_95 (fun H locs hw => ?_)
            refine lv_aload_n hx hb dX0_cross_96 rfl (lv_at hl 1 rfl) ?_
            obtain ⟨r28, er28, hf⟩ := ob_s hf
            refine ep_get (C := RX0) (T := TX0) (N := 25) (ci := 0) hx hb hts in_X0 hown hK hw rfl 3 (by decide) q930 (gR_f er28) dX0_cross_97 ?_
            obtain ⟨r29, er29, hf⟩ := ob_s hf
            refine ep_getN (C := RX1) (T := TX1) (N := 11) (ci := 1) hx hb hts in_X1 hown hK hw rfl 4 (by decide) q159 (gR_f er29) dX0_cross_100 ?_
            refine lv_iload_n hx hb dX0_cross_103 rfl (lv_at hl 3 rfl) ?_
            refine lv_aload_n hx hb dX0_cross_104 rfl (lv_at hl 1 rfl) ?_
            obtain ⟨r30, er30, hf⟩ := ob_s hf
            refine ep_get (C := RX0) (T := TX0) (N := 25) (ci := 0) hx hb hts in_X0 hown hK hw rfl 3 (by decide) q930 (gR_f er30) dX0_cross_105 ?_
            obtain ⟨r31, er31, hf⟩ := ob_s hf
            refine ep_getN (C := RX1) (T := TX1) (N := 11) (ci := 1) hx hb hts in_X1 hown hK hw rfl 4 (by decide) q159 (gR_f er31) dX0_cross_108 ?_
            refine lv_iload_n hx hb dX0_cross_111 rfl (lv_at hl 2 rfl) ?_
            refine lv_aload_n hx hb dX0_cross_112 rfl (lv_at hl 1 rfl) ?_
            obtain ⟨r32, er32, hf⟩ := ob_s hf
            refine ep_get (C := RX0) (T := TX0) (N := 25) (ci := 0) hx hb hts in_X0 hown hK hw rfl 3 (by decide) q930 (gR_f er32) dX0_cross_113 ?_
            obtain ⟨r33, er33, hf⟩ := ob_s hf
            refine ep_getN (C := RX1) (T := TX1) (N := 11) (ci := 1) hx hb hts in_X1 hown hK hw rfl 4 (by decide) q159 (gR_f er33) dX0_cross_116 ?_
            refine lv_iload_n hx hb dX0_cross_119 rfl (lv_at hl 3 rfl) ?_
            obtain ⟨v34, ev34, hf⟩ := ob_s hf
            refine ep_iald hx hb hK hw ev34 dX0_cross_120 ?_
            obtain ⟨o35, eo35, hf⟩ := ob_s hf
            refine ep_calli0 (va_runS (As := [.ref r31, .int x1, .int v34]) (rest := [.int x2, .ref r29]) ⟨hx, hb, hml, hown, hts⟩ (metX0_sets l G h27 r31 x1 v34 eo35) (va_cwS 3 hts (lw_S q642 q643 q85 q644) rfl rfl rfl hsX0_sets ⟨Nat.le_of_ble_eq_true rfl, Nat.le_of_ble_eq_true rfl⟩) (ep_preS hK hZ hw) rfl rfl hl.1 rfl (lv_room (Nat.le_of_ble_eq_true rfl)) dX0_cross_121 ⟨Nat.le_of_ble_eq_true rfl, Nat.le_of_ble_eq_true rfl⟩) hw (fun H locs hw => ?_)
            obtain ⟨h36, eh36, hf⟩ := ob_s hf
            refine ep_iast hx hb hK hw eh36 dX0_cross_124 (fun H locs hw => ?_)
            refine lv_aload_n hx hb dX0_cross_125 rfl (lv_at hl 1 rfl) ?_
            obtain ⟨r37, er37, hf⟩ := ob_s hf
            refine ep_get (C := RX0) (T := TX0) (N := 25) (ci := 0) hx hb hts in_X0 hown hK hw rfl 3 (by decide) q930 (gR_f er37) dX0_cross_126 ?_
            obtain ⟨r38, er38, hf⟩ := ob_s hf
            refine ep_getN (C := RX1) (T := TX1) (N := 11) (ci := 1) hx hb hts in_X1 hown hK hw rfl 4 (by decide) q159 (gR_f er38) dX0_cross_129 ?_
            refine lv_iload_n hx hb dX0_cross_132 rfl (lv_at hl 2 rfl) ?_
            obtain ⟨v39, ev39, hf⟩ := ob_s hf
            refine ep_iald hx hb hK hw ev39 dX0_cross_133 ?_
            exact ep_retiW hx hb hr hlocks hw hf dX0_cross_134
          · have hf := oi_f hf c15
            refine lv_bipush (v := iI (-2)) hx hb dX0_cross_55 (by decide) ?_
            exact ep_retiW hx hb hr hlocks hw hf dX0_cross_57
      · have hf := oi_t hf c5
        refine lv_iconst (v := iI (-1)) hx hb dX0_cross_21 rfl ?_
        exact ep_retiW hx hb hr hlocks hw hf dX0_cross_22
theorem hdX1_isSpoiled : yX1_isSpoiled.cls = RX1 ∧ yX1_isSpoiled.cls ≠ "java/lang/invoke/MethodHandle" ∧ yX1_isSpoiled.cls ≠ "java/lang/invoke/VarHandle" ∧ (parseMethodDescriptor yX1_isSpoiled.desc).map (fun d => d.parameters.length) = some 1 := by decide +kernel
theorem ckX1_isSpoiled {h : Hp} {a0 : Nat} {x1 : Int32} {res : Int32} (hf : fX1_isSpoiled h a0 x1 = some res) : ep_cls h a0 = some 1 := by
  unfold fX1_isSpoiled at hf
  exact (oi_c hf).1
abbrev wX1_isSpoiled (p : Program) (l : Launch) (e : Env) (s : State) (m : MethodId) (below : List Frame) (meth : Method) (c : Code) (G : EG) (h : Hp) (a0 : Nat) (x1 : Int32) (res : Int32) (k9 n9 : Nat) (H : Heap) (locs : List Loc) (g : JFrame) : Prop := W p l e (headSpec (ws_ yX1_isSpoiled cX1_isSpoiled 4 (some .boolean)) ({ frames := 4, cells := 0, slots := 0, locals := 120 } : Room)).room s m ([.ref a0, .int x1] : List Value).toArray below meth c H locs k9 n9 (MQ below (ep_Qi G ep_cl h res) ([.ref a0, .int x1] : List Value).toArray s 0 0 (ep_A G)) g
set_option maxHeartbeats 4000000 in
theorem metX1_isSpoiled (l : Launch) (G : EG) (h : Hp) (a0 : Nat) (x1 : Int32) {res : Int32} (hf : fX1_isSpoiled h a0 x1 = some res) : Met l yX1_isSpoiled (ws_ yX1_isSpoiled cX1_isSpoiled 4 (some .boolean)) ({ frames := 4, cells := 0, slots := 0, locals := 120 } : Room) (ep_Pc G ep_cl h [.ref a0, .int x1]) (ep_Qi G ep_cl h res) 0 0 (ep_A G) := by
  refine Met.ofW (cc := cX1_isSpoiled) (maxL := 4) (ret := (some .boolean)) (by decide) rfl ?_
  intro p e s m args below meth c s₁ B hml hv
  obtain ⟨rfl, hR, hK, hZ⟩ := hv
  have hx := B.exec
  have hb := B.bytes
  have hr := B.returns
  have hlocks := B.notSynchronized
  have hts := atoms_spec (ws := (ws_ yX1_isSpoiled cX1_isSpoiled 4 (some .boolean))) B.pre
  have hts : ∀ w ∈ lw_all, w.before _ s = true := fun w h => hts w (List.mem_cons_of_mem _ h)
  have hown : s.vm.findClass RX1 = some m.cls := findClass_of_methodNamed B.named
  have hw : ep_W G ep_cl h s s.heap [] := ⟨hR, va_S.rf⟩
  have hl := lv_entry ([.ref a0, .int x1]) (n := 4) (Nat.le_of_ble_eq_true rfl)
  rw [lg_entry_eq]
  generalize (lg_sl ([.ref a0, .int x1]) ++ List.replicate (4 - (lg_sl ([.ref a0, .int x1])).length) Slot.unset).toArray = ls at hl ⊢
  have hl : lv_has ls 4 [(0, .ref a0), (1, .int x1)] := hl
  unfold fX1_isSpoiled at hf
  have hf := (oi_c hf).2
  show wX1_isSpoiled p l e s m below meth c G h a0 x1 res 0 0 s.heap ([]) (F0 m 0 ls [])
  refine lv_iconst (v := iI 0) hx hb dX1_isSpoiled_0 rfl ?_
  refine lv_istore_n (lv' := [(2, .int (iI 0)), (0, .ref a0), (1, .int x1)]) hx hb dX1_isSpoiled_1 rfl hl (by decide) rfl (fun ls hl => ?_)
  refine lv_iconst (v := iI 0) hx hb dX1_isSpoiled_2 rfl ?_
  refine lv_istore_n (lv' := [(3, .int (iI 0)), (2, .int (iI 0)), (0, .ref a0), (1, .int x1)]) hx hb dX1_isSpoiled_3 rfl hl (by decide) rfl (fun ls hl => ?_)
  obtain ⟨o1, ho1, hf⟩ := ob_s hf
  have hJ1 : ∀ (H : Heap) (locs : List Loc) (ls : Array Slot), ep_W G ep_cl h s H locs → lv_has ls 4 [(2, .int o1)] → wX1_isSpoiled p l e s m below meth c G h a0 x1 res 0 0 H locs (F0 m 62 ls []) := by
    intro H locs ls hw hl
    refine lv_iload_n hx hb dX1_isSpoiled_62 rfl (lv_at hl 0 rfl) ?_
    obtain ⟨z, ez, hf⟩ := ob_s hf
    obtain ⟨hz, hn⟩ := ckZ_s ez
    rw [hz] at hf
    exact ep_retzR hx hb hr hn hlocks hw hf dX1_isSpoiled_63
  have hL1 : ∀ (fu : Nat) (x2 : Int32) (x3 : Int32), fX1_isSpoiled_L4 h a0 x1 fu x2 x3 = some o1 → ∀ (H : Heap) (locs : List Loc) (ls : Array Slot), ep_W G ep_cl h s H locs → lv_has ls 4 [(0, .ref a0), (1, .int x1), (2, .int x2), (3, .int x3)] → wX1_isSpoiled p l e s m below meth c G h a0 x1 res 0 0 H locs (F0 m 4 ls []) := by
    intro fu
    induction fu with
    | zero => intro x2 x3 ho1; cases ho1
    | succ fu ih1 =>
      intro x2 x3 ho1 H locs ls hw hl
      rw [fX1_isSpoiled_L4] at ho1
      refine lv_iload_n hx hb dX1_isSpoiled_4 rfl (lv_at hl 3 rfl) ?_
      refine lv_aload_n hx hb dX1_isSpoiled_5 rfl (lv_at hl 0 rfl) ?_
      obtain ⟨v2, ev2, ho1⟩ := ob_s ho1
      refine ep_get (C := RX1) (T := TX1) (N := 11) (ci := 1) hx hb hts in_X1 hown hK hw rfl 7 (by decide) q166 (gI_f ev2) dX1_isSpoiled_6 ?_
      refine lv_icmp_ge (tgt := 62) hx hb dX1_isSpoiled_9 (by decide) (fun c3 => ?_) (fun c3 => ?_)
      · have ho1 := oi_t ho1 c3
        obtain rfl := Option.some.inj ho1
        exact hJ1 _ _ _ hw (lv_sub hl [2] rfl)
      · have ho1 := oi_f ho1 c3
        refine lv_iload_n hx hb dX1_isSpoiled_12 rfl (lv_at hl 2 rfl) ?_
        obtain ⟨o4, ho4, ho1⟩ := ob_s ho1
        have hJ4 : ∀ (H : Heap) (locs : List Loc) (ls : Array Slot), ep_W G ep_cl h s H locs → lv_has ls 4 [(0, .ref a0), (1, .int x1), (3, .int x3)] → wX1_isSpoiled p l e s m below meth c G h a0 x1 res 0 0 H locs (F0 m 55 ls [.int o4]) := by
          intro H locs ls hw hl
          refine lv_istore_n (lv' := [(2, .int o4), (0, .ref a0), (1, .int x1), (3, .int x3)]) hx hb dX1_isSpoiled_55 rfl hl (by decide) rfl (fun ls hl => ?_)
          refine lv_iinc (v := (x3 + iI 1)) (lv' := [(3, .int (x3 + iI 1)), (2, .int o4), (0, .ref a0), (1, .int x1)]) hx hb dX1_isSpoiled_56 hl (k := 3) rfl rfl (by decide) rfl (fun ls hl => ?_)
          refine lv_goto (tgt := 4) hx hb dX1_isSpoiled_59 (by decide) ?_
          exact ih1 _ _ ho1 _ _ _ hw (lv_sub hl [2, 3, 1, 0] rfl)
        refine lv_if_ne (tgt := 50) hx hb dX1_isSpoiled_13 (by decide) (fun c5 => ?_) (fun c5 => ?_)
        · have ho4 := oi_f ho4 c5
          refine lv_iconst (v := iI 1) hx hb dX1_isSpoiled_50 rfl ?_
          refine lv_goto (tgt := 55) hx hb dX1_isSpoiled_51 (by decide) ?_
          obtain rfl := Option.some.inj ho4
          exact hJ4 _ _ _ hw (lv_sub hl [0, 1, 3] rfl)
        · have ho4 := oi_t ho4 c5
          refine lv_aload_n hx hb dX1_isSpoiled_16 rfl (lv_at hl 0 rfl) ?_
          obtain ⟨r6, er6, ho4⟩ := ob_s ho4
          refine ep_get (C := RX1) (T := TX1) (N := 11) (ci := 1) hx hb hts in_X1 hown hK hw rfl 6 (by decide) q163 (gR_f er6) dX1_isSpoiled_17 ?_
          refine lv_iload_n hx hb dX1_isSpoiled_20 rfl (lv_at hl 3 rfl) ?_
          obtain ⟨v7, ev7, ho4⟩ := ob_s ho4
          refine ep_iald hx hb hK hw ev7 dX1_isSpoiled_21 ?_
          refine lv_iload_n hx hb dX1_isSpoiled_22 rfl (lv_at hl 1 rfl) ?_
          refine lv_icmp_ne (tgt := 54) hx hb dX1_isSpoiled_23 (by decide) (fun c8 => ?_) (fun c8 => ?_)
          · have ho4 := oi_f ho4 c8
            refine lv_iconst (v := iI 0) hx hb dX1_isSpoiled_54 rfl ?_
            obtain rfl := Option.some.inj ho4
            exact hJ4 _ _ _ hw (lv_sub hl [0, 1, 3] rfl)
          · have ho4 := oi_t ho4 c8
            refine ep_breeds hx hb hown hK hZ hw q583 dX1_isSpoiled_26 ?_
            refine lv_aload_n hx hb dX1_isSpoiled_29 rfl (lv_at hl 0 rfl) ?_
            obtain ⟨r9, er9, ho4⟩ := ob_s ho4
            refine ep_get (C := RX1) (T := TX1) (N := 11) (ci := 1) hx hb hts in_X1 hown hK hw rfl 2 (by decide) q151 (gR_f er9) dX1_isSpoiled_30 ?_
            refine lv_iload_n hx hb dX1_isSpoiled_33 rfl (lv_at hl 3 rfl) ?_
            obtain ⟨v10, ev10, ho4⟩ := ob_s ho4
            refine ep_iald hx hb hK hw ev10 dX1_isSpoiled_34 ?_
            obtain ⟨u11, eu11, ho4⟩ := ob_s ho4
            refine ep_breed hx hb hZ hw eu11 dX1_isSpoiled_35 ?_
            obtain ⟨v12, ev12, ho4⟩ := ob_s ho4
            refine ep_calli0 (runV_spoils ⟨hx, hb, hml, hown, hts⟩ hK hZ hw ev12 (Nat.le_of_ble_eq_true rfl) (Nat.le_of_ble_eq_true rfl) rfl rfl hl.1 rfl (lv_room (Nat.le_of_ble_eq_true rfl)) dX1_isSpoiled_36 ⟨Nat.le_of_ble_eq_true rfl, Nat.le_of_ble_eq_true rfl⟩) hw (fun H locs hw => ?_)
            refine lv_if_eq (tgt := 54) hx hb dX1_isSpoiled_39 (by decide) (fun c13 => ?_) (fun c13 => ?_)
            · have ho4 := oi_t ho4 c13
              refine lv_iconst (v := iI 0) hx hb dX1_isSpoiled_54 rfl ?_
              obtain rfl := Option.some.inj ho4
              exact hJ4 _ _ _ hw (lv_sub hl [0, 1, 3] rfl)
            · have ho4 := oi_f ho4 c13
              refine lv_aload_n hx hb dX1_isSpoiled_42 rfl (lv_at hl 0 rfl) ?_
              refine lv_iload_n hx hb dX1_isSpoiled_43 rfl (lv_at hl 3 rfl) ?_
              obtain ⟨v14, ev14, ho4⟩ := ob_s ho4
              refine ep_calli0 (va_runV (As := [.int x3]) (rest := []) ⟨hx, hb, hml, hown, hts⟩ (metX1_isSilent l G h a0 x3 ev14) (cwV 1 hts (lw_V q557 q558 q559 q86 q560) rfl rfl rfl hdX1_isSilent ⟨Nat.le_of_ble_eq_true rfl, Nat.le_of_ble_eq_true rfl⟩) (ep_preV hK hZ hw rfl (ckX1_isSilent ev14)) rfl rfl hl.1 rfl (lv_room (Nat.le_of_ble_eq_true rfl)) dX1_isSpoiled_44 ⟨Nat.le_of_ble_eq_true rfl, Nat.le_of_ble_eq_true rfl⟩) hw (fun H locs hw => ?_)
              refine lv_if_ne (tgt := 54) hx hb dX1_isSpoiled_47 (by decide) (fun c15 => ?_) (fun c15 => ?_)
              · have ho4 := oi_f ho4 c15
                refine lv_iconst (v := iI 0) hx hb dX1_isSpoiled_54 rfl ?_
                obtain rfl := Option.some.inj ho4
                exact hJ4 _ _ _ hw (lv_sub hl [0, 1, 3] rfl)
              · have ho4 := oi_t ho4 c15
                refine lv_iconst (v := iI 1) hx hb dX1_isSpoiled_50 rfl ?_
                refine lv_goto (tgt := 55) hx hb dX1_isSpoiled_51 (by decide) ?_
                obtain rfl := Option.some.inj ho4
                exact hJ4 _ _ _ hw (lv_sub hl [0, 1, 3] rfl)
  exact hL1 FUEL _ _ ho1 _ _ _ hw (lv_sub hl [2, 3, 1, 0] rfl)
theorem hdX1_grows : yX1_grows.cls = RX1 ∧ yX1_grows.cls ≠ "java/lang/invoke/MethodHandle" ∧ yX1_grows.cls ≠ "java/lang/invoke/VarHandle" ∧ (parseMethodDescriptor yX1_grows.desc).map (fun d => d.parameters.length) = some 1 := by decide +kernel
theorem ckX1_grows {h : Hp} {a0 : Nat} {x1 : Int32} {res : Hp} (hf : fX1_grows h a0 x1 = some res) : ep_cls h a0 = some 1 := by
  unfold fX1_grows at hf
  exact (oi_c hf).1
abbrev wX1_grows (p : Program) (l : Launch) (e : Env) (s : State) (m : MethodId) (below : List Frame) (meth : Method) (c : Code) (G : EG) (h : Hp) (a0 : Nat) (x1 : Int32) (res : Hp) (k9 n9 : Nat) (H : Heap) (locs : List Loc) (g : JFrame) : Prop := W p l e (headSpec (ws_ yX1_grows cX1_grows 4 none) ({ frames := 4, cells := 0, slots := 0, locals := 120 } : Room)).room s m ([.ref a0, .int x1] : List Value).toArray below meth c H locs k9 n9 (MQ below (ep_Qv G ep_cl res) ([.ref a0, .int x1] : List Value).toArray s 0 0 (ep_A G)) g
set_option maxHeartbeats 4000000 in
theorem metX1_grows (l : Launch) (G : EG) (h : Hp) (a0 : Nat) (x1 : Int32) {res : Hp} (hf : fX1_grows h a0 x1 = some res) : Met l yX1_grows (ws_ yX1_grows cX1_grows 4 none) ({ frames := 4, cells := 0, slots := 0, locals := 120 } : Room) (ep_Pc G ep_cl h [.ref a0, .int x1]) (ep_Qv G ep_cl res) 0 0 (ep_A G) := by
  refine Met.ofW (cc := cX1_grows) (maxL := 4) (ret := none) (by decide) rfl ?_
  intro p e s m args below meth c s₁ B hml hv
  obtain ⟨rfl, hR, hK, hZ⟩ := hv
  have hx := B.exec
  have hb := B.bytes
  have hr := B.returns
  have hlocks := B.notSynchronized
  have hts := atoms_spec (ws := (ws_ yX1_grows cX1_grows 4 none)) B.pre
  have hts : ∀ w ∈ lw_all, w.before _ s = true := fun w h => hts w (List.mem_cons_of_mem _ h)
  have hown : s.vm.findClass RX1 = some m.cls := findClass_of_methodNamed B.named
  have hw : ep_W G ep_cl h s s.heap [] := ⟨hR, va_S.rf⟩
  have hl := lv_entry ([.ref a0, .int x1]) (n := 4) (Nat.le_of_ble_eq_true rfl)
  rw [lg_entry_eq]
  generalize (lg_sl ([.ref a0, .int x1]) ++ List.replicate (4 - (lg_sl ([.ref a0, .int x1])).length) Slot.unset).toArray = ls at hl ⊢
  have hl : lv_has ls 4 [(0, .ref a0), (1, .int x1)] := hl
  unfold fX1_grows at hf
  have hf := (oi_c hf).2
  show wX1_grows p l e s m below meth c G h a0 x1 res 0 0 s.heap ([]) (F0 m 0 ls [])
  refine lv_iconst (v := iI 0) hx hb dX1_grows_0 rfl ?_
  refine lv_istore_n (lv' := [(2, .int (iI 0)), (0, .ref a0), (1, .int x1)]) hx hb dX1_grows_1 rfl hl (by decide) rfl (fun ls hl => ?_)
  refine lv_iconst (v := iI 0) hx hb dX1_grows_2 rfl ?_
  refine lv_istore_n (lv' := [(3, .int (iI 0)), (2, .int (iI 0)), (0, .ref a0), (1, .int x1)]) hx hb dX1_grows_3 rfl hl (by decide) rfl (fun ls hl => ?_)
  obtain ⟨o1, ho1, hf⟩ := ob_s hf
  have hJ1 : ∀ (H : Heap) (locs : List Loc) (ls : Array Slot), ep_W G ep_cl h s H locs → lv_has ls 4 [(0, .ref a0), (1, .int x1), (2, .int o1)] → wX1_grows p l e s m below meth c G h a0 x1 res 0 0 H locs (F0 m 55 ls []) := by
    intro H locs ls hw hl
    refine lv_aload_n hx hb dX1_grows_55 rfl (lv_at hl 0 rfl) ?_
    obtain ⟨r15, er15, hf⟩ := ob_s hf
    refine ep_get (C := RX1) (T := TX1) (N := 11) (ci := 1) hx hb hts in_X1 hown hK hw rfl 5 (by decide) q160 (gR_f er15) dX1_grows_56 ?_
    refine lv_iload_n hx hb dX1_grows_59 rfl (lv_at hl 1 rfl) ?_
    refine lv_iconst (v := iI 0) hx hb dX1_grows_60 rfl ?_
    refine lv_bipush (v := iI 99) hx hb dX1_grows_61 (by decide) ?_
    refine lv_aload_n hx hb dX1_grows_63 rfl (lv_at hl 0 rfl) ?_
    obtain ⟨r16, er16, hf⟩ := ob_s hf
    refine ep_get (C := RX1) (T := TX1) (N := 11) (ci := 1) hx hb hts in_X1 hown hK hw rfl 5 (by decide) q160 (gR_f er16) dX1_grows_64 ?_
    refine lv_iload_n hx hb dX1_grows_67 rfl (lv_at hl 1 rfl) ?_
    obtain ⟨v17, ev17, hf⟩ := ob_s hf
    refine ep_iald hx hb hK hw ev17 dX1_grows_68 ?_
    refine ep_breeds hx hb hown hK hZ hw q583 dX1_grows_69 ?_
    refine lv_aload_n hx hb dX1_grows_72 rfl (lv_at hl 0 rfl) ?_
    obtain ⟨r18, er18, hf⟩ := ob_s hf
    refine ep_get (C := RX1) (T := TX1) (N := 11) (ci := 1) hx hb hts in_X1 hown hK hw rfl 2 (by decide) q151 (gR_f er18) dX1_grows_73 ?_
    refine lv_iload_n hx hb dX1_grows_76 rfl (lv_at hl 1 rfl) ?_
    obtain ⟨v19, ev19, hf⟩ := ob_s hf
    refine ep_iald hx hb hK hw ev19 dX1_grows_77 ?_
    obtain ⟨u20, eu20, hf⟩ := ob_s hf
    refine ep_breed hx hb hZ hw eu20 dX1_grows_78 ?_
    refine lv_iload_n hx hb dX1_grows_79 rfl (lv_at hl 2 rfl) ?_
    obtain ⟨v21, ev21, hf⟩ := ob_s hf
    refine ep_calli0 (runV_gain ⟨hx, hb, hml, hown, hts⟩ hK hZ hw ev21 (Nat.le_of_ble_eq_true rfl) (Nat.le_of_ble_eq_true rfl) rfl rfl hl.1 rfl (lv_room (Nat.le_of_ble_eq_true rfl)) dX1_grows_80 ⟨Nat.le_of_ble_eq_true rfl, Nat.le_of_ble_eq_true rfl⟩) hw (fun H locs hw => ?_)
    refine lv_iadd hx hb dX1_grows_83 ?_
    refine lv_iconst (v := iI 1) hx hb dX1_grows_84 rfl ?_
    refine lv_isub hx hb dX1_grows_85 ?_
    refine va_mmin hx hb (hml.trans hl.1.symm) hown (hts _ q717) (hts _ q458) (hts _ q100) (hts _ q459) (Nat.le_of_ble_eq_true rfl) (Nat.le_of_ble_eq_true rfl) (Nat.le_of_ble_eq_true rfl) (Nat.le_of_ble_eq_true rfl) dX1_grows_86 ?_
    refine va_mmax hx hb (hml.trans hl.1.symm) hown (hts _ q718) (hts _ q430) (hts _ q100) (hts _ q431) (Nat.le_of_ble_eq_true rfl) (Nat.le_of_ble_eq_true rfl) (Nat.le_of_ble_eq_true rfl) (Nat.le_of_ble_eq_true rfl) dX1_grows_89 ?_
    obtain ⟨h22, eh22, hf⟩ := ob_s hf
    refine ep_iast hx hb hK hw eh22 dX1_grows_92 (fun H locs hw => ?_)
    exact ep_retvW hx hb hr hlocks hw hf dX1_grows_93
  have hL1 : ∀ (fu : Nat) (x2 : Int32) (x3 : Int32), fX1_grows_L4 h a0 x1 fu x2 x3 = some o1 → ∀ (H : Heap) (locs : List Loc) (ls : Array Slot), ep_W G ep_cl h s H locs → lv_has ls 4 [(0, .ref a0), (1, .int x1), (2, .int x2), (3, .int x3)] → wX1_grows p l e s m below meth c G h a0 x1 res 0 0 H locs (F0 m 4 ls []) := by
    intro fu
    induction fu with
    | zero => intro x2 x3 ho1; cases ho1
    | succ fu ih1 =>
      intro x2 x3 ho1 H locs ls hw hl
      rw [fX1_grows_L4] at ho1
      refine lv_iload_n hx hb dX1_grows_4 rfl (lv_at hl 3 rfl) ?_
      refine lv_aload_n hx hb dX1_grows_5 rfl (lv_at hl 0 rfl) ?_
      obtain ⟨r2, er2, ho1⟩ := ob_s ho1
      refine ep_get (C := RX1) (T := TX1) (N := 11) (ci := 1) hx hb hts in_X1 hown hK hw rfl 4 (by decide) q157 (gR_f er2) dX1_grows_6 ?_
      refine lv_iload_n hx hb dX1_grows_9 rfl (lv_at hl 1 rfl) ?_
      obtain ⟨v3, ev3, ho1⟩ := ob_s ho1
      refine ep_iald hx hb hK hw ev3 dX1_grows_10 ?_
      refine lv_icmp_ge (tgt := 55) hx hb dX1_grows_11 (by decide) (fun c4 => ?_) (fun c4 => ?_)
      · have ho1 := oi_t ho1 c4
        obtain rfl := Option.some.inj ho1
        exact hJ1 _ _ _ hw (lv_sub hl [0, 1, 2] rfl)
      · have ho1 := oi_f ho1 c4
        refine lv_iload_n hx hb dX1_grows_14 rfl (lv_at hl 2 rfl) ?_
        refine lv_aload_n hx hb dX1_grows_15 rfl (lv_at hl 0 rfl) ?_
        obtain ⟨r5, er5, ho1⟩ := ob_s ho1
        refine ep_get (C := RX1) (T := TX1) (N := 11) (ci := 1) hx hb hts in_X1 hown hK hw rfl 3 (by decide) q154 (gR_f er5) dX1_grows_16 ?_
        refine lv_iload_n hx hb dX1_grows_19 rfl (lv_at hl 1 rfl) ?_
        obtain ⟨v6, ev6, ho1⟩ := ob_s ho1
        refine ep_aald 4 (by decide) rfl hx hb hK hw ev6 dX1_grows_20 ?_
        refine lv_iload_n hx hb dX1_grows_21 rfl (lv_at hl 3 rfl) ?_
        obtain ⟨v7, ev7, ho1⟩ := ob_s ho1
        refine ep_bald 1 (by decide) rfl hx hb hK hw ev7 dX1_grows_22 ?_
        refine va_ldcS hx hb hown hZ.2.2.2.1 dX1_grows_23 ?_
        refine lv_aload_n hx hb dX1_grows_25 rfl (lv_at hl 0 rfl) ?_
        obtain ⟨r8, er8, ho1⟩ := ob_s ho1
        refine ep_get (C := RX1) (T := TX1) (N := 11) (ci := 1) hx hb hts in_X1 hown hK hw rfl 1 (by decide) q148 (gR_f er8) dX1_grows_26 ?_
        refine lv_aload_n hx hb dX1_grows_29 rfl (lv_at hl 0 rfl) ?_
        obtain ⟨r9, er9, ho1⟩ := ob_s ho1
        refine ep_get (C := RX1) (T := TX1) (N := 11) (ci := 1) hx hb hts in_X1 hown hK hw rfl 6 (by decide) q163 (gR_f er9) dX1_grows_30 ?_
        refine lv_iload_n hx hb dX1_grows_33 rfl (lv_at hl 1 rfl) ?_
        obtain ⟨v10, ev10, ho1⟩ := ob_s ho1
        refine ep_iald hx hb hK hw ev10 dX1_grows_34 ?_
        obtain ⟨v11, ev11, ho1⟩ := ob_s ho1
        refine ep_iald hx hb hK hw ev11 dX1_grows_35 ?_
        obtain ⟨v12, ev12, ho1⟩ := ob_s ho1
        refine ep_calli0 (va_runV (As := [.int v11]) (rest := [.int v7, .int x2]) ⟨hx, hb, hml, hown, hts⟩ (metJ3_charAt l G h 0 v11 ev12) (cwV 1 hts (lw_V q701 q372 q373 q96 q374) rfl rfl rfl hdJ3_charAt ⟨Nat.le_of_ble_eq_true rfl, Nat.le_of_ble_eq_true rfl⟩) (ep_preK (by decide) hK hZ hw) rfl rfl hl.1 rfl (lv_room (Nat.le_of_ble_eq_true rfl)) dX1_grows_36 ⟨Nat.le_of_ble_eq_true rfl, Nat.le_of_ble_eq_true rfl⟩) hw (fun H locs hw => ?_)
        have hJ13 : wX1_grows p l e s m below meth c G h a0 x1 res 0 0 H locs (F0 m 47 ls [.int (if v7 = v12 then iI 1 else iI 0), .int x2]) := by
          refine lv_iadd hx hb dX1_grows_47 ?_
          refine lv_istore_n (lv' := [(2, .int (x2 + (if v7 = v12 then iI 1 else iI 0))), (0, .ref a0), (1, .int x1), (3, .int x3)]) hx hb dX1_grows_48 rfl hl (by decide) rfl (fun ls hl => ?_)
          refine lv_iinc (v := (x3 + iI 1)) (lv' := [(3, .int (x3 + iI 1)), (2, .int (x2 + (if v7 = v12 then iI 1 else iI 0))), (0, .ref a0), (1, .int x1)]) hx hb dX1_grows_49 hl (k := 3) rfl rfl (by decide) rfl (fun ls hl => ?_)
          refine lv_goto (tgt := 4) hx hb dX1_grows_52 (by decide) ?_
          exact ih1 _ _ ho1 _ _ _ hw (lv_sub hl [2, 3, 1, 0] rfl)
        refine lv_icmp_ne (tgt := 46) hx hb dX1_grows_39 (by decide) (fun c14 => ?_) (fun c14 => ?_)
        · refine lv_iconst (v := iI 0) hx hb dX1_grows_46 rfl ?_
          rw [if_neg c14] at hJ13
          exact hJ13
        · refine lv_iconst (v := iI 1) hx hb dX1_grows_42 rfl ?_
          refine lv_goto (tgt := 47) hx hb dX1_grows_43 (by decide) ?_
          rw [if_pos c14] at hJ13
          exact hJ13
  exact hL1 FUEL _ _ ho1 _ _ _ hw (lv_sub hl [2, 3, 1, 0] rfl)
theorem hdX1_week : yX1_week.cls = RX1 ∧ yX1_week.cls ≠ "java/lang/invoke/MethodHandle" ∧ yX1_week.cls ≠ "java/lang/invoke/VarHandle" ∧ (parseMethodDescriptor yX1_week.desc).map (fun d => d.parameters.length) = some 0 := by decide +kernel
theorem ckX1_week {h : Hp} {a0 : Nat} {res : Hp} (hf : fX1_week h a0 = some res) : ep_cls h a0 = some 1 := by
  unfold fX1_week at hf
  exact (oi_c hf).1
abbrev wX1_week (p : Program) (l : Launch) (e : Env) (s : State) (m : MethodId) (below : List Frame) (meth : Method) (c : Code) (G : EG) (h : Hp) (a0 : Nat) (res : Hp) (k9 n9 : Nat) (H : Heap) (locs : List Loc) (g : JFrame) : Prop := W p l e (headSpec (ws_ yX1_week cX1_week 4 none) ({ frames := 5, cells := 0, slots := 0, locals := 143 } : Room)).room s m ([.ref a0] : List Value).toArray below meth c H locs k9 n9 (MQ below (ep_Qv G ep_cl res) ([.ref a0] : List Value).toArray s 0 0 (ep_A G)) g
set_option maxHeartbeats 4000000 in
theorem metX1_week (l : Launch) (G : EG) (h : Hp) (a0 : Nat) {res : Hp} (hf : fX1_week h a0 = some res) : Met l yX1_week (ws_ yX1_week cX1_week 4 none) ({ frames := 5, cells := 0, slots := 0, locals := 143 } : Room) (ep_Pc G ep_cl h [.ref a0]) (ep_Qv G ep_cl res) 0 0 (ep_A G) := by
  refine Met.ofW (cc := cX1_week) (maxL := 4) (ret := none) (by decide) rfl ?_
  intro p e s m args below meth c s₁ B hml hv
  obtain ⟨rfl, hR, hK, hZ⟩ := hv
  have hx := B.exec
  have hb := B.bytes
  have hr := B.returns
  have hlocks := B.notSynchronized
  have hts := atoms_spec (ws := (ws_ yX1_week cX1_week 4 none)) B.pre
  have hts : ∀ w ∈ lw_all, w.before _ s = true := fun w h => hts w (List.mem_cons_of_mem _ h)
  have hown : s.vm.findClass RX1 = some m.cls := findClass_of_methodNamed B.named
  have hw : ep_W G ep_cl h s s.heap [] := ⟨hR, va_S.rf⟩
  have hl := lv_entry ([.ref a0]) (n := 4) (Nat.le_of_ble_eq_true rfl)
  rw [lg_entry_eq]
  generalize (lg_sl ([.ref a0]) ++ List.replicate (4 - (lg_sl ([.ref a0])).length) Slot.unset).toArray = ls at hl ⊢
  have hl : lv_has ls 4 [(0, .ref a0)] := hl
  unfold fX1_week at hf
  have hf := (oi_c hf).2
  show wX1_week p l e s m below meth c G h a0 res 0 0 s.heap ([]) (F0 m 0 ls [])
  refine lv_iconst (v := iI 0) hx hb dX1_week_0 rfl ?_
  refine lv_istore_n (lv' := [(1, .int (iI 0)), (0, .ref a0)]) hx hb dX1_week_1 rfl hl (by decide) rfl (fun ls hl => ?_)
  obtain ⟨o1, ho1, hf⟩ := ob_s hf
  have hJ1 : ∀ (H : Heap) (locs : List Loc) (ls : Array Slot), ep_W G ep_cl o1 s H locs → lv_has ls 4 [(0, .ref a0)] → wX1_week p l e s m below meth c G h a0 res 0 0 H locs (F0 m 82 ls []) := by
    intro H locs ls hw hl
    refine lv_iconst (v := iI 0) hx hb dX1_week_82 rfl ?_
    refine lv_istore_n (lv' := [(1, .int (iI 0)), (0, .ref a0)]) hx hb dX1_week_83 rfl hl (by decide) rfl (fun ls hl => ?_)
    obtain ⟨o21, ho21, hf⟩ := ob_s hf
    have hJ21 : ∀ (H : Heap) (locs : List Loc) (ls : Array Slot), ep_W G ep_cl o21 s H locs → lv_has ls 4 [(0, .ref a0)] → wX1_week p l e s m below meth c G h a0 res 0 0 H locs (F0 m 119 ls []) := by
      intro H locs ls hw hl
      refine lv_aload_n hx hb dX1_week_119 rfl (lv_at hl 0 rfl) ?_
      refine lv_dup hx hb dX1_week_120 rfl ?_
      obtain ⟨v30, ev30, hf⟩ := ob_s hf
      refine ep_get (C := RX1) (T := TX1) (N := 11) (ci := 1) hx hb hts in_X1 hown hK hw rfl 9 (by decide) q171 (gI_f ev30) dX1_week_121 ?_
      refine lv_iconst (v := iI 1) hx hb dX1_week_124 rfl ?_
      refine lv_iadd hx hb dX1_week_125 ?_
      obtain ⟨h31, eh31, hf⟩ := ob_s hf
      refine ep_put (C := RX1) (T := TX1) (N := 11) (ci := 1) hx hb hts in_X1 tyX1 tyX1_ok nmX1 hown hK hw rfl (by decide) 9 (by decide) q171 rfl rfl rfl eh31 dX1_week_126 (fun H locs hw => ?_)
      exact ep_retvW hx hb hr hlocks hw hf dX1_week_129
    have hL21 : ∀ (fu : Nat) (h : Hp) (x1 : Int32), fX1_week_L84 a0 fu h x1 = some o21 → ∀ (H : Heap) (locs : List Loc) (ls : Array Slot), ep_W G ep_cl h s H locs → lv_has ls 4 [(0, .ref a0), (1, .int x1)] → wX1_week p l e s m below meth c G h a0 res 0 0 H locs (F0 m 84 ls []) := by
      intro fu
      induction fu with
      | zero => intro h x1 ho21; cases ho21
      | succ fu ih21 =>
        intro h x1 ho21 H locs ls hw hl
        rw [fX1_week_L84] at ho21
        refine lv_iload_n hx hb dX1_week_84 rfl (lv_at hl 1 rfl) ?_
        refine lv_aload_n hx hb dX1_week_85 rfl (lv_at hl 0 rfl) ?_
        obtain ⟨v22, ev22, ho21⟩ := ob_s ho21
        refine ep_get (C := RX1) (T := TX1) (N := 11) (ci := 1) hx hb hts in_X1 hown hK hw rfl 7 (by decide) q166 (gI_f ev22) dX1_week_86 ?_
        refine lv_icmp_ge (tgt := 119) hx hb dX1_week_89 (by decide) (fun c23 => ?_) (fun c23 => ?_)
        · have ho21 := oi_t ho21 c23
          obtain rfl := Option.some.inj ho21
          exact hJ21 _ _ _ hw (lv_sub hl [0] rfl)
        · have ho21 := oi_f ho21 c23
          refine lv_aload_n hx hb dX1_week_92 rfl (lv_at hl 0 rfl) ?_
          refine lv_iload_n hx hb dX1_week_93 rfl (lv_at hl 1 rfl) ?_
          obtain ⟨v24, ev24, ho21⟩ := ob_s ho21
          refine ep_calli0 (va_runV (As := [.int x1]) (rest := []) ⟨hx, hb, hml, hown, hts⟩ (metX1_isSold l G h a0 x1 ev24) (cwV 1 hts (lw_V q553 q554 q555 q86 q556) rfl rfl rfl hdX1_isSold ⟨Nat.le_of_ble_eq_true rfl, Nat.le_of_ble_eq_true rfl⟩) (ep_preV hK hZ hw rfl (ckX1_isSold ev24)) rfl rfl hl.1 rfl (lv_room (Nat.le_of_ble_eq_true rfl)) dX1_week_94 ⟨Nat.le_of_ble_eq_true rfl, Nat.le_of_ble_eq_true rfl⟩) hw (fun H locs hw => ?_)
          obtain ⟨o25, ho25, ho21⟩ := ob_s ho21
          have hJ25 : ∀ (H : Heap) (locs : List Loc) (ls : Array Slot), ep_W G ep_cl o25 s H locs → lv_has ls 4 [(0, .ref a0), (1, .int x1)] → wX1_week p l e s m below meth c G h a0 res 0 0 H locs (F0 m 113 ls []) := by
            intro H locs ls hw hl
            refine lv_iinc (v := (x1 + iI 1)) (lv' := [(1, .int (x1 + iI 1)), (0, .ref a0)]) hx hb dX1_week_113 hl (k := 1) rfl rfl (by decide) rfl (fun ls hl => ?_)
            refine lv_goto (tgt := 84) hx hb dX1_week_116 (by decide) ?_
            exact ih21 _ _ ho21 _ _ _ hw (lv_sub hl [1, 0] rfl)
          refine lv_if_ne (tgt := 113) hx hb dX1_week_97 (by decide) (fun c26 => ?_) (fun c26 => ?_)
          · have ho25 := oi_f ho25 c26
            obtain rfl := Option.some.inj ho25
            exact hJ25 _ _ _ hw (lv_sub hl [0, 1] rfl)
          · have ho25 := oi_t ho25 c26
            refine lv_aload_n hx hb dX1_week_100 rfl (lv_at hl 0 rfl) ?_
            refine lv_iload_n hx hb dX1_week_101 rfl (lv_at hl 1 rfl) ?_
            obtain ⟨v27, ev27, ho25⟩ := ob_s ho25
            refine ep_calli0 (va_runV (As := [.int x1]) (rest := []) ⟨hx, hb, hml, hown, hts⟩ (metX1_isSilent l G h a0 x1 ev27) (cwV 1 hts (lw_V q557 q558 q559 q86 q560) rfl rfl rfl hdX1_isSilent ⟨Nat.le_of_ble_eq_true rfl, Nat.le_of_ble_eq_true rfl⟩) (ep_preV hK hZ hw rfl (ckX1_isSilent ev27)) rfl rfl hl.1 rfl (lv_room (Nat.le_of_ble_eq_true rfl)) dX1_week_102 ⟨Nat.le_of_ble_eq_true rfl, Nat.le_of_ble_eq_true rfl⟩) hw (fun H locs hw => ?_)
            refine lv_if_ne (tgt := 113) hx hb dX1_week_105 (by decide) (fun c28 => ?_) (fun c28 => ?_)
            · have ho25 := oi_f ho25 c28
              obtain rfl := Option.some.inj ho25
              exact hJ25 _ _ _ hw (lv_sub hl [0, 1] rfl)
            · have ho25 := oi_t ho25 c28
              refine lv_aload_n hx hb dX1_week_108 rfl (lv_at hl 0 rfl) ?_
              refine lv_iload_n hx hb dX1_week_109 rfl (lv_at hl 1 rfl) ?_
              obtain ⟨o29, eo29, ho25⟩ := ob_s ho25
              refine ep_callv0 (va_runV (As := [.int x1]) (rest := []) ⟨hx, hb, hml, hown, hts⟩ (metX1_grows l G h a0 x1 eo29) (cwV 1 hts (lw_V q696 q698 qs21 q86 q699) rfl rfl rfl hdX1_grows ⟨Nat.le_of_ble_eq_true rfl, Nat.le_of_ble_eq_true rfl⟩) (ep_preV hK hZ hw rfl (ckX1_grows eo29)) rfl rfl hl.1 rfl (lv_room (Nat.le_of_ble_eq_true rfl)) dX1_week_110 ⟨Nat.le_of_ble_eq_true rfl, Nat.le_of_ble_eq_true rfl⟩) hw (fun H locs hw => ?_)
              obtain rfl := Option.some.inj ho25
              exact hJ25 _ _ _ hw (lv_sub hl [0, 1] rfl)
    exact hL21 FUEL _ _ ho21 _ _ _ hw (lv_sub hl [1, 0] rfl)
  have hL1 : ∀ (fu : Nat) (h : Hp) (x1 : Int32), fX1_week_L2 a0 fu h x1 = some o1 → ∀ (H : Heap) (locs : List Loc) (ls : Array Slot), ep_W G ep_cl h s H locs → lv_has ls 4 [(0, .ref a0), (1, .int x1)] → wX1_week p l e s m below meth c G h a0 res 0 0 H locs (F0 m 2 ls []) := by
    intro fu
    induction fu with
    | zero => intro h x1 ho1; cases ho1
    | succ fu ih1 =>
      intro h x1 ho1 H locs ls hw hl
      rw [fX1_week_L2] at ho1
      refine lv_iload_n hx hb dX1_week_2 rfl (lv_at hl 1 rfl) ?_
      refine lv_iconst (v := iI 4) hx hb dX1_week_3 rfl ?_
      refine lv_icmp_ge (tgt := 82) hx hb dX1_week_4 (by decide) (fun c2 => ?_) (fun c2 => ?_)
      · have ho1 := oi_t ho1 c2
        obtain rfl := Option.some.inj ho1
        exact hJ1 _ _ _ hw (lv_sub hl [0] rfl)
      · have ho1 := oi_f ho1 c2
        refine lv_aload_n hx hb dX1_week_7 rfl (lv_at hl 0 rfl) ?_
        refine lv_iload_n hx hb dX1_week_8 rfl (lv_at hl 1 rfl) ?_
        obtain ⟨v3, ev3, ho1⟩ := ob_s ho1
        refine ep_calli0 (va_runV (As := [.int x1]) (rest := []) ⟨hx, hb, hml, hown, hts⟩ (metX1_isSpoiled l G h a0 x1 ev3) (cwV 1 hts (lw_V q679 q681 qs20 q86 q682) rfl rfl rfl hdX1_isSpoiled ⟨Nat.le_of_ble_eq_true rfl, Nat.le_of_ble_eq_true rfl⟩) (ep_preV hK hZ hw rfl (ckX1_isSpoiled ev3)) rfl rfl hl.1 rfl (lv_room (Nat.le_of_ble_eq_true rfl)) dX1_week_9 ⟨Nat.le_of_ble_eq_true rfl, Nat.le_of_ble_eq_true rfl⟩) hw (fun H locs hw => ?_)
        refine lv_istore_n (lv' := [(2, .int v3), (0, .ref a0), (1, .int x1)]) hx hb dX1_week_12 rfl hl (by decide) rfl (fun ls hl => ?_)
        refine lv_iconst (v := iI 0) hx hb dX1_week_13 rfl ?_
        refine lv_istore_n (lv' := [(3, .int (iI 0)), (2, .int v3), (0, .ref a0), (1, .int x1)]) hx hb dX1_week_14 rfl hl (by decide) rfl (fun ls hl => ?_)
        obtain ⟨o4, ho4, ho1⟩ := ob_s ho1
        have hJ4 : ∀ (H : Heap) (locs : List Loc) (ls : Array Slot), ep_W G ep_cl o4 s H locs → lv_has ls 4 [(0, .ref a0), (1, .int x1)] → wX1_week p l e s m below meth c G h a0 res 0 0 H locs (F0 m 76 ls []) := by
          intro H locs ls hw hl
          refine lv_iinc (v := (x1 + iI 1)) (lv' := [(1, .int (x1 + iI 1)), (0, .ref a0)]) hx hb dX1_week_76 hl (k := 1) rfl rfl (by decide) rfl (fun ls hl => ?_)
          refine lv_goto (tgt := 2) hx hb dX1_week_79 (by decide) ?_
          exact ih1 _ _ ho1 _ _ _ hw (lv_sub hl [1, 0] rfl)
        have hL4 : ∀ (fu : Nat) (h : Hp) (x3 : Int32), fX1_week_L15 a0 x1 v3 fu h x3 = some o4 → ∀ (H : Heap) (locs : List Loc) (ls : Array Slot), ep_W G ep_cl h s H locs → lv_has ls 4 [(0, .ref a0), (1, .int x1), (2, .int v3), (3, .int x3)] → wX1_week p l e s m below meth c G h a0 res 0 0 H locs (F0 m 15 ls []) := by
          intro fu
          induction fu with
          | zero => intro h x3 ho4; cases ho4
          | succ fu ih4 =>
            intro h x3 ho4 H locs ls hw hl
            rw [fX1_week_L15] at ho4
            refine lv_iload_n hx hb dX1_week_15 rfl (lv_at hl 3 rfl) ?_
            refine lv_aload_n hx hb dX1_week_16 rfl (lv_at hl 0 rfl) ?_
            obtain ⟨v5, ev5, ho4⟩ := ob_s ho4
            refine ep_get (C := RX1) (T := TX1) (N := 11) (ci := 1) hx hb hts in_X1 hown hK hw rfl 7 (by decide) q166 (gI_f ev5) dX1_week_17 ?_
            refine lv_icmp_ge (tgt := 76) hx hb dX1_week_20 (by decide) (fun c6 => ?_) (fun c6 => ?_)
            · have ho4 := oi_t ho4 c6
              obtain rfl := Option.some.inj ho4
              exact hJ4 _ _ _ hw (lv_sub hl [0, 1] rfl)
            · have ho4 := oi_f ho4 c6
              refine lv_iload_n hx hb dX1_week_23 rfl (lv_at hl 2 rfl) ?_
              refine lv_if_eq (tgt := 76) hx hb dX1_week_24 (by decide) (fun c7 => ?_) (fun c7 => ?_)
              · have ho4 := oi_t ho4 c7
                obtain rfl := Option.some.inj ho4
                exact hJ4 _ _ _ hw (lv_sub hl [0, 1] rfl)
              · have ho4 := oi_f ho4 c7
                refine lv_aload_n hx hb dX1_week_27 rfl (lv_at hl 0 rfl) ?_
                obtain ⟨r8, er8, ho4⟩ := ob_s ho4
                refine ep_get (C := RX1) (T := TX1) (N := 11) (ci := 1) hx hb hts in_X1 hown hK hw rfl 4 (by decide) q157 (gR_f er8) dX1_week_28 ?_
                refine lv_iload_n hx hb dX1_week_31 rfl (lv_at hl 3 rfl) ?_
                refine lv_dup2_11 hx hb dX1_week_32 rfl rfl ?_
                obtain ⟨v9, ev9, ho4⟩ := ob_s ho4
                refine ep_iald hx hb hK hw ev9 dX1_week_33 ?_
                refine lv_aload_n hx hb dX1_week_34 rfl (lv_at hl 0 rfl) ?_
                obtain ⟨r10, er10, ho4⟩ := ob_s ho4
                refine ep_get (C := RX1) (T := TX1) (N := 11) (ci := 1) hx hb hts in_X1 hown hK hw rfl 6 (by decide) q163 (gR_f er10) dX1_week_35 ?_
                refine lv_iload_n hx hb dX1_week_38 rfl (lv_at hl 3 rfl) ?_
                obtain ⟨v11, ev11, ho4⟩ := ob_s ho4
                refine ep_iald hx hb hK hw ev11 dX1_week_39 ?_
                refine lv_iload_n hx hb dX1_week_40 rfl (lv_at hl 1 rfl) ?_
                obtain ⟨o12, ho12, ho4⟩ := ob_s ho4
                have hJ12 : ∀ (H : Heap) (locs : List Loc) (ls : Array Slot), ep_W G ep_cl h s H locs → lv_has ls 4 [(0, .ref a0), (1, .int x1), (2, .int v3), (3, .int x3)] → wX1_week p l e s m below meth c G h a0 res 0 0 H locs (F0 m 68 ls [.int o12, .int v9, .int x3, .ref r8]) := by
                  intro H locs ls hw hl
                  refine lv_isub hx hb dX1_week_68 ?_
                  obtain ⟨h20, eh20, ho4⟩ := ob_s ho4
                  refine ep_iast hx hb hK hw eh20 dX1_week_69 (fun H locs hw => ?_)
                  refine lv_iinc (v := (x3 + iI 1)) (lv' := [(3, .int (x3 + iI 1)), (0, .ref a0), (1, .int x1), (2, .int v3)]) hx hb dX1_week_70 hl (k := 3) rfl rfl (by decide) rfl (fun ls hl => ?_)
                  refine lv_goto (tgt := 15) hx hb dX1_week_73 (by decide) ?_
                  exact ih4 _ _ ho4 _ _ _ hw (lv_sub hl [1, 2, 3, 0] rfl)
                refine lv_icmp_ne (tgt := 67) hx hb dX1_week_41 (by decide) (fun c13 => ?_) (fun c13 => ?_)
                · have ho12 := oi_f ho12 c13
                  refine lv_iconst (v := iI 0) hx hb dX1_week_67 rfl ?_
                  obtain rfl := Option.some.inj ho12
                  exact hJ12 _ _ _ hw (lv_sub hl [0, 1, 2, 3] rfl)
                · have ho12 := oi_t ho12 c13
                  refine lv_aload_n hx hb dX1_week_44 rfl (lv_at hl 0 rfl) ?_
                  obtain ⟨r14, er14, ho12⟩ := ob_s ho12
                  refine ep_get (C := RX1) (T := TX1) (N := 11) (ci := 1) hx hb hts in_X1 hown hK hw rfl 2 (by decide) q151 (gR_f er14) dX1_week_45 ?_
                  refine lv_iload_n hx hb dX1_week_48 rfl (lv_at hl 3 rfl) ?_
                  obtain ⟨v15, ev15, ho12⟩ := ob_s ho12
                  refine ep_iald hx hb hK hw ev15 dX1_week_49 ?_
                  refine lv_iconst (v := iI 3) hx hb dX1_week_50 rfl ?_
                  refine lv_icmp_eq (tgt := 67) hx hb dX1_week_51 (by decide) (fun c16 => ?_) (fun c16 => ?_)
                  · have ho12 := oi_t ho12 c16
                    refine lv_iconst (v := iI 0) hx hb dX1_week_67 rfl ?_
                    obtain rfl := Option.some.inj ho12
                    exact hJ12 _ _ _ hw (lv_sub hl [0, 1, 2, 3] rfl)
                  · have ho12 := oi_f ho12 c16
                    refine lv_aload_n hx hb dX1_week_54 rfl (lv_at hl 0 rfl) ?_
                    obtain ⟨r17, er17, ho12⟩ := ob_s ho12
                    refine ep_get (C := RX1) (T := TX1) (N := 11) (ci := 1) hx hb hts in_X1 hown hK hw rfl 4 (by decide) q157 (gR_f er17) dX1_week_55 ?_
                    refine lv_iload_n hx hb dX1_week_58 rfl (lv_at hl 3 rfl) ?_
                    obtain ⟨v18, ev18, ho12⟩ := ob_s ho12
                    refine ep_iald hx hb hK hw ev18 dX1_week_59 ?_
                    refine lv_if_le (tgt := 67) hx hb dX1_week_60 (by decide) (fun c19 => ?_) (fun c19 => ?_)
                    · have ho12 := oi_t ho12 c19
                      refine lv_iconst (v := iI 0) hx hb dX1_week_67 rfl ?_
                      obtain rfl := Option.some.inj ho12
                      exact hJ12 _ _ _ hw (lv_sub hl [0, 1, 2, 3] rfl)
                    · have ho12 := oi_f ho12 c19
                      refine lv_iconst (v := iI 1) hx hb dX1_week_63 rfl ?_
                      refine lv_goto (tgt := 68) hx hb dX1_week_64 (by decide) ?_
                      obtain rfl := Option.some.inj ho12
                      exact hJ12 _ _ _ hw (lv_sub hl [0, 1, 2, 3] rfl)
        exact hL4 FUEL _ _ ho4 _ _ _ hw (lv_sub hl [2, 3, 1, 0] rfl)
  exact hL1 FUEL _ _ ho1 _ _ _ hw (lv_sub hl [1, 0] rfl)
