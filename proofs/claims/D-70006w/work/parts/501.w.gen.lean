/-! walks (printed by gen.py) -/
set_option maxRecDepth 100000
theorem hsJ4_indexOf : yJ4_indexOf.cls ≠ "java/lang/invoke/MethodHandle" ∧ yJ4_indexOf.cls ≠ "java/lang/invoke/VarHandle" ∧ (parseMethodDescriptor yJ4_indexOf.desc).map (fun d => d.parameters.length) = some 4 := by decide +kernel
abbrev wJ4_indexOf (p : Program) (l : Launch) (e : Env) (s : State) (m : MethodId) (below : List Frame) (meth : Method) (c : Code) (G : EG) (h : Hp) (k0 : Nat) (x1 : Int32) (x2 : Int32) (x3 : Int32) (res : Int32) (k9 n9 : Nat) (H : Heap) (locs : List Loc) (g : JFrame) : Prop := W p l e (headSpec (ws_ yJ4_indexOf cJ4_indexOf 4 (some .int)) ({ frames := 1, cells := 0, slots := 0, locals := 25 } : Room)).room s m ([.ref (G.2.2.2 (20 + k0)), .int x1, .int x2, .int x3] : List Value).toArray below meth c H locs k9 n9 (MQ below (ep_Qi G ep_cl h res) ([.ref (G.2.2.2 (20 + k0)), .int x1, .int x2, .int x3] : List Value).toArray s 0 0 (ep_A G)) g
set_option maxHeartbeats 4000000 in
theorem metJ4_indexOf (l : Launch) (G : EG) (h : Hp) (k0 : Nat) (x1 : Int32) (x2 : Int32) (x3 : Int32) {res : Int32} (hf : fJ4_indexOf k0 x1 x2 x3 = some res) : Met l yJ4_indexOf (ws_ yJ4_indexOf cJ4_indexOf 4 (some .int)) ({ frames := 1, cells := 0, slots := 0, locals := 25 } : Room) (ep_Pc G ep_cl h [.ref (G.2.2.2 (20 + k0)), .int x1, .int x2, .int x3]) (ep_Qi G ep_cl h res) 0 0 (ep_A G) := by
  refine Met.ofW (cc := cJ4_indexOf) (maxL := 4) (ret := (some .int)) (by decide) rfl ?_
  intro p e s m args below meth c s₁ B hml hv
  obtain ⟨rfl, hR, hK, hZ⟩ := hv
  have hx := B.exec
  have hb := B.bytes
  have hr := B.returns
  have hlocks := B.notSynchronized
  have hts := atoms_spec (ws := (ws_ yJ4_indexOf cJ4_indexOf 4 (some .int))) B.pre
  have hts : ∀ w ∈ lw_all, w.before _ s = true := fun w h => hts w (List.mem_cons_of_mem _ h)
  have hown : s.vm.findClass RJ4 = some m.cls := findClass_of_methodNamed B.named
  have hw : ep_W G ep_cl h s s.heap [] := ⟨hR, va_S.rf⟩
  have hl := lv_entry ([.ref (G.2.2.2 (20 + k0)), .int x1, .int x2, .int x3]) (n := 4) (Nat.le_of_ble_eq_true rfl)
  rw [lg_entry_eq]
  generalize (lg_sl ([.ref (G.2.2.2 (20 + k0)), .int x1, .int x2, .int x3]) ++ List.replicate (4 - (lg_sl ([.ref (G.2.2.2 (20 + k0)), .int x1, .int x2, .int x3])).length) Slot.unset).toArray = ls at hl ⊢
  have hl : lv_has ls 4 [(0, .ref (G.2.2.2 (20 + k0))), (1, .int x1), (2, .int x2), (3, .int x3)] := hl
  unfold fJ4_indexOf at hf
  show wJ4_indexOf p l e s m below meth c G h k0 x1 x2 x3 res 0 0 s.heap ([]) (F0 m 0 ls [])
  refine lv_iload_n hx hb dJ4_indexOf_0 rfl (lv_at hl 1 rfl) ?_
  obtain ⟨v1, ev1, hf⟩ := ob_s hf
  refine ep_calli0 (va_runS (As := [.int x1]) (rest := []) ⟨hx, hb, hml, hown, hts⟩ (metJ4_canEncode l G h x1 ev1) (va_cwS 1 hts (lw_S q453 q454 q97 q455) rfl rfl rfl hsJ4_canEncode ⟨Nat.le_of_ble_eq_true rfl, Nat.le_of_ble_eq_true rfl⟩) (ep_preS hK hZ hw) rfl rfl hl.1 rfl (lv_room (Nat.le_of_ble_eq_true rfl)) dJ4_indexOf_1 ⟨Nat.le_of_ble_eq_true rfl, Nat.le_of_ble_eq_true rfl⟩) hw (fun H locs hw => ?_)
  refine lv_if_ne (tgt := 9) hx hb dJ4_indexOf_4 (by decide) (fun c2 => ?_) (fun c2 => ?_)
  · have hf := oi_f hf c2
    refine lv_iload_n hx hb dJ4_indexOf_9 rfl (lv_at hl 2 rfl) ?_
    refine lv_iconst (v := iI 0) hx hb dJ4_indexOf_10 rfl ?_
    refine va_mmax hx hb (hml.trans hl.1.symm) hown (hts _ q456) (hts _ q430) (hts _ q100) (hts _ q431) (Nat.le_of_ble_eq_true rfl) (Nat.le_of_ble_eq_true rfl) (Nat.le_of_ble_eq_true rfl) (Nat.le_of_ble_eq_true rfl) dJ4_indexOf_11 ?_
    refine lv_istore_n (lv' := [(2, .int (if x2 < (iI 0) then (iI 0) else x2)), (0, .ref (G.2.2.2 (20 + k0))), (1, .int x1), (3, .int x3)]) hx hb dJ4_indexOf_14 rfl hl (by decide) rfl (fun ls hl => ?_)
    refine lv_iload_n hx hb dJ4_indexOf_15 rfl (lv_at hl 3 rfl) ?_
    refine lv_aload_n hx hb dJ4_indexOf_16 rfl (lv_at hl 1 rfl) ?_
    obtain ⟨v3, ev3, hf⟩ := ob_s hf
    refine ep_slen hx hb hZ hw ev3 dJ4_indexOf_17 ?_
    refine va_mmin hx hb (hml.trans hl.1.symm) hown (hts _ q457) (hts _ q458) (hts _ q100) (hts _ q459) (Nat.le_of_ble_eq_true rfl) (Nat.le_of_ble_eq_true rfl) (Nat.le_of_ble_eq_true rfl) (Nat.le_of_ble_eq_true rfl) dJ4_indexOf_18 ?_
    refine lv_istore_n (lv' := [(3, .int (if v3 < x3 then v3 else x3)), (2, .int (if x2 < (iI 0) then (iI 0) else x2)), (0, .ref (G.2.2.2 (20 + k0))), (1, .int x1)]) hx hb dJ4_indexOf_21 rfl hl (by decide) rfl (fun ls hl => ?_)
    refine lv_iload_n hx hb dJ4_indexOf_22 rfl (lv_at hl 1 rfl) ?_
    refine lv_iload_n hx hb dJ4_indexOf_23 rfl (lv_at hl 0 rfl) ?_
    refine lv_icmp_lt (tgt := 29) hx hb dJ4_indexOf_24 (by decide) (fun c4 => ?_) (fun c4 => ?_)
    · have hf := oi_t hf c4
      refine lv_aload_n hx hb dJ4_indexOf_29 rfl (lv_at hl 2 rfl) ?_
      refine lv_iload_n hx hb dJ4_indexOf_30 rfl (lv_at hl 3 rfl) ?_
      refine lv_iload_n hx hb dJ4_indexOf_31 rfl (lv_at hl 1 rfl) ?_
      refine lv_iload_n hx hb dJ4_indexOf_32 rfl (lv_at hl 0 rfl) ?_
      obtain ⟨v5, ev5, hf⟩ := ob_s hf
      refine ep_calli0 (va_runS (As := [.ref (G.2.2.2 (20 + k0)), .int x1, .int (if x2 < (iI 0) then (iI 0) else x2), .int (if v3 < x3 then v3 else x3)]) (rest := []) ⟨hx, hb, hml, hown, hts⟩ (metJ4_indexOfChar l G h k0 x1 (if x2 < (iI 0) then (iI 0) else x2) (if v3 < x3 then v3 else x3) ev5) (va_cwS 4 hts (lw_S q460 q461 q97 q462) rfl rfl rfl hsJ4_indexOfChar ⟨Nat.le_of_ble_eq_true rfl, Nat.le_of_ble_eq_true rfl⟩) (ep_preS hK hZ hw) rfl rfl hl.1 rfl (lv_room (Nat.le_of_ble_eq_true rfl)) dJ4_indexOf_33 ⟨Nat.le_of_ble_eq_true rfl, Nat.le_of_ble_eq_true rfl⟩) hw (fun H locs hw => ?_)
      exact ep_retiR hx hb hr hlocks hw hf dJ4_indexOf_36
    · have hf := oi_f hf c4
      refine lv_iconst (v := iI (-1)) hx hb dJ4_indexOf_27 rfl ?_
      exact ep_retiR hx hb hr hlocks hw hf dJ4_indexOf_28
  · have hf := oi_t hf c2
    refine lv_iconst (v := iI (-1)) hx hb dJ4_indexOf_7 rfl ?_
    exact ep_retiR hx hb hr hlocks hw hf dJ4_indexOf_8
theorem hdJ3_indexOf_2 : yJ3_indexOf_2.cls = RJ3 ∧ yJ3_indexOf_2.cls ≠ "java/lang/invoke/MethodHandle" ∧ yJ3_indexOf_2.cls ≠ "java/lang/invoke/VarHandle" ∧ (parseMethodDescriptor yJ3_indexOf_2.desc).map (fun d => d.parameters.length) = some 2 := by decide +kernel
theorem ckS_J3_indexOf_2 {k0 : Nat} {x1 : Int32} {x2 : Int32} {res : Int32} (hf : fJ3_indexOf_2 k0 x1 x2 = some res) : k0 < 7 := by
  unfold fJ3_indexOf_2 at hf
  exact (oi_c hf).1
abbrev wJ3_indexOf_2 (p : Program) (l : Launch) (e : Env) (s : State) (m : MethodId) (below : List Frame) (meth : Method) (c : Code) (G : EG) (h : Hp) (k0 : Nat) (x1 : Int32) (x2 : Int32) (res : Int32) (k9 n9 : Nat) (H : Heap) (locs : List Loc) (g : JFrame) : Prop := W p l e (headSpec (ws_ yJ3_indexOf_2 cJ3_indexOf_2 3 (some .int)) ({ frames := 2, cells := 0, slots := 0, locals := 48 } : Room)).room s m ([.ref (G.2.2.2 (10 + k0)), .int x1, .int x2] : List Value).toArray below meth c H locs k9 n9 (MQ below (ep_Qi G ep_cl h res) ([.ref (G.2.2.2 (10 + k0)), .int x1, .int x2] : List Value).toArray s 0 0 (ep_A G)) g
set_option maxHeartbeats 4000000 in
theorem metJ3_indexOf_2 (l : Launch) (G : EG) (h : Hp) (k0 : Nat) (x1 : Int32) (x2 : Int32) {res : Int32} (hf : fJ3_indexOf_2 k0 x1 x2 = some res) : Met l yJ3_indexOf_2 (ws_ yJ3_indexOf_2 cJ3_indexOf_2 3 (some .int)) ({ frames := 2, cells := 0, slots := 0, locals := 48 } : Room) (ep_Pc G ep_cl h [.ref (G.2.2.2 (10 + k0)), .int x1, .int x2]) (ep_Qi G ep_cl h res) 0 0 (ep_A G) := by
  refine Met.ofW (cc := cJ3_indexOf_2) (maxL := 3) (ret := (some .int)) (by decide) rfl ?_
  intro p e s m args below meth c s₁ B hml hv
  obtain ⟨rfl, hR, hK, hZ⟩ := hv
  have hx := B.exec
  have hb := B.bytes
  have hr := B.returns
  have hlocks := B.notSynchronized
  have hts := atoms_spec (ws := (ws_ yJ3_indexOf_2 cJ3_indexOf_2 3 (some .int))) B.pre
  have hts : ∀ w ∈ lw_all, w.before _ s = true := fun w h => hts w (List.mem_cons_of_mem _ h)
  have hown : s.vm.findClass RJ3 = some m.cls := findClass_of_methodNamed B.named
  have hw : ep_W G ep_cl h s s.heap [] := ⟨hR, va_S.rf⟩
  have hl := lv_entry ([.ref (G.2.2.2 (10 + k0)), .int x1, .int x2]) (n := 3) (Nat.le_of_ble_eq_true rfl)
  rw [lg_entry_eq]
  generalize (lg_sl ([.ref (G.2.2.2 (10 + k0)), .int x1, .int x2]) ++ List.replicate (3 - (lg_sl ([.ref (G.2.2.2 (10 + k0)), .int x1, .int x2])).length) Slot.unset).toArray = ls at hl ⊢
  have hl : lv_has ls 3 [(0, .ref (G.2.2.2 (10 + k0))), (1, .int x1), (2, .int x2)] := hl
  unfold fJ3_indexOf_2 at hf
  have hf := (oi_c hf).2
  show wJ3_indexOf_2 p l e s m below meth c G h k0 x1 x2 res 0 0 s.heap ([]) (F0 m 0 ls [])
  refine lv_aload_n hx hb dJ3_indexOf_2_0 rfl (lv_at hl 0 rfl) ?_
  obtain ⟨v1, ev1, hf⟩ := ob_s hf
  refine ep_calli0 (va_runV (As := []) (rest := []) ⟨hx, hb, hml, hown, hts⟩ (metJ3_isLatin1 l G h k0 ev1) (cwV 0 hts (lw_V q375 q376 q377 q96 q378) rfl rfl rfl hdJ3_isLatin1 ⟨Nat.le_of_ble_eq_true rfl, Nat.le_of_ble_eq_true rfl⟩) (ep_preK (ckS_J3_isLatin1 ev1) hK hZ hw) rfl rfl hl.1 rfl (lv_room (Nat.le_of_ble_eq_true rfl)) dJ3_indexOf_2_1 ⟨Nat.le_of_ble_eq_true rfl, Nat.le_of_ble_eq_true rfl⟩) hw (fun H locs hw => ?_)
  refine lv_if_eq (tgt := 23) hx hb dJ3_indexOf_2_4 (by decide) (fun c2 => ?_) (fun c2 => ?_)
  · have hf := oi_t hf c2
    cases hf
  · have hf := oi_f hf c2
    refine lv_aload_n hx hb dJ3_indexOf_2_7 rfl (lv_at hl 0 rfl) ?_
    obtain ⟨u3, eu3, hf⟩ := ob_s hf
    refine ep_sval (sCk_s eu3) hx hb hts hown hZ hw q1638 dJ3_indexOf_2_8 ?_
    refine lv_iload_n hx hb dJ3_indexOf_2_11 rfl (lv_at hl 1 rfl) ?_
    refine lv_iload_n hx hb dJ3_indexOf_2_12 rfl (lv_at hl 2 rfl) ?_
    refine lv_aload_n hx hb dJ3_indexOf_2_13 rfl (lv_at hl 0 rfl) ?_
    obtain ⟨v4, ev4, hf⟩ := ob_s hf
    refine ep_calli0 (va_runV (As := []) (rest := [.int x2, .int x1, .ref (G.2.2.2 (20 + k0))]) ⟨hx, hb, hml, hown, hts⟩ (metJ3_length l G h k0 ev4) (cwV 0 hts (lw_V q449 q362 q363 q96 q364) rfl rfl rfl hdJ3_length ⟨Nat.le_of_ble_eq_true rfl, Nat.le_of_ble_eq_true rfl⟩) (ep_preK (ckS_J3_length ev4) hK hZ hw) rfl rfl hl.1 rfl (lv_room (Nat.le_of_ble_eq_true rfl)) dJ3_indexOf_2_14 ⟨Nat.le_of_ble_eq_true rfl, Nat.le_of_ble_eq_true rfl⟩) hw (fun H locs hw => ?_)
    obtain ⟨v5, ev5, hf⟩ := ob_s hf
    refine ep_calli0 (va_runS (As := [.ref (G.2.2.2 (20 + k0)), .int x1, .int x2, .int v4]) (rest := []) ⟨hx, hb, hml, hown, hts⟩ (metJ4_indexOf l G h k0 x1 x2 v4 ev5) (va_cwS 4 hts (lw_S q450 q451 q97 q452) rfl rfl rfl hsJ4_indexOf ⟨Nat.le_of_ble_eq_true rfl, Nat.le_of_ble_eq_true rfl⟩) (ep_preS hK hZ hw) rfl rfl hl.1 rfl (lv_room (Nat.le_of_ble_eq_true rfl)) dJ3_indexOf_2_17 ⟨Nat.le_of_ble_eq_true rfl, Nat.le_of_ble_eq_true rfl⟩) hw (fun H locs hw => ?_)
    refine lv_goto (tgt := 36) hx hb dJ3_indexOf_2_20 (by decide) ?_
    exact ep_retiR hx hb hr hlocks hw hf dJ3_indexOf_2_36
theorem hdJ3_indexOf : yJ3_indexOf.cls = RJ3 ∧ yJ3_indexOf.cls ≠ "java/lang/invoke/MethodHandle" ∧ yJ3_indexOf.cls ≠ "java/lang/invoke/VarHandle" ∧ (parseMethodDescriptor yJ3_indexOf.desc).map (fun d => d.parameters.length) = some 1 := by decide +kernel
theorem ckS_J3_indexOf {k0 : Nat} {x1 : Int32} {res : Int32} (hf : fJ3_indexOf k0 x1 = some res) : k0 < 7 := by
  unfold fJ3_indexOf at hf
  exact (oi_c hf).1
abbrev wJ3_indexOf (p : Program) (l : Launch) (e : Env) (s : State) (m : MethodId) (below : List Frame) (meth : Method) (c : Code) (G : EG) (h : Hp) (k0 : Nat) (x1 : Int32) (res : Int32) (k9 n9 : Nat) (H : Heap) (locs : List Loc) (g : JFrame) : Prop := W p l e (headSpec (ws_ yJ3_indexOf cJ3_indexOf 2 (some .int)) ({ frames := 3, cells := 0, slots := 0, locals := 70 } : Room)).room s m ([.ref (G.2.2.2 (10 + k0)), .int x1] : List Value).toArray below meth c H locs k9 n9 (MQ below (ep_Qi G ep_cl h res) ([.ref (G.2.2.2 (10 + k0)), .int x1] : List Value).toArray s 0 0 (ep_A G)) g
set_option maxHeartbeats 4000000 in
theorem metJ3_indexOf (l : Launch) (G : EG) (h : Hp) (k0 : Nat) (x1 : Int32) {res : Int32} (hf : fJ3_indexOf k0 x1 = some res) : Met l yJ3_indexOf (ws_ yJ3_indexOf cJ3_indexOf 2 (some .int)) ({ frames := 3, cells := 0, slots := 0, locals := 70 } : Room) (ep_Pc G ep_cl h [.ref (G.2.2.2 (10 + k0)), .int x1]) (ep_Qi G ep_cl h res) 0 0 (ep_A G) := by
  refine Met.ofW (cc := cJ3_indexOf) (maxL := 2) (ret := (some .int)) (by decide) rfl ?_
  intro p e s m args below meth c s₁ B hml hv
  obtain ⟨rfl, hR, hK, hZ⟩ := hv
  have hx := B.exec
  have hb := B.bytes
  have hr := B.returns
  have hlocks := B.notSynchronized
  have hts := atoms_spec (ws := (ws_ yJ3_indexOf cJ3_indexOf 2 (some .int))) B.pre
  have hts : ∀ w ∈ lw_all, w.before _ s = true := fun w h => hts w (List.mem_cons_of_mem _ h)
  have hown : s.vm.findClass RJ3 = some m.cls := findClass_of_methodNamed B.named
  have hw : ep_W G ep_cl h s s.heap [] := ⟨hR, va_S.rf⟩
  have hl := lv_entry ([.ref (G.2.2.2 (10 + k0)), .int x1]) (n := 2) (Nat.le_of_ble_eq_true rfl)
  rw [lg_entry_eq]
  generalize (lg_sl ([.ref (G.2.2.2 (10 + k0)), .int x1]) ++ List.replicate (2 - (lg_sl ([.ref (G.2.2.2 (10 + k0)), .int x1])).length) Slot.unset).toArray = ls at hl ⊢
  have hl : lv_has ls 2 [(0, .ref (G.2.2.2 (10 + k0))), (1, .int x1)] := hl
  unfold fJ3_indexOf at hf
  have hf := (oi_c hf).2
  show wJ3_indexOf p l e s m below meth c G h k0 x1 res 0 0 s.heap ([]) (F0 m 0 ls [])
  refine lv_aload_n hx hb dJ3_indexOf_0 rfl (lv_at hl 0 rfl) ?_
  refine lv_iload_n hx hb dJ3_indexOf_1 rfl (lv_at hl 1 rfl) ?_
  refine lv_iconst (v := iI 0) hx hb dJ3_indexOf_2 rfl ?_
  obtain ⟨v1, ev1, hf⟩ := ob_s hf
  refine ep_calli0 (va_runV (As := [.int x1, .int (iI 0)]) (rest := []) ⟨hx, hb, hml, hown, hts⟩ (metJ3_indexOf_2 l G h k0 x1 (iI 0) ev1) (cwV 2 hts (lw_V q445 q446 q447 q96 q448) rfl rfl rfl hdJ3_indexOf_2 ⟨Nat.le_of_ble_eq_true rfl, Nat.le_of_ble_eq_true rfl⟩) (ep_preK (ckS_J3_indexOf_2 ev1) hK hZ hw) rfl rfl hl.1 rfl (lv_room (Nat.le_of_ble_eq_true rfl)) dJ3_indexOf_3 ⟨Nat.le_of_ble_eq_true rfl, Nat.le_of_ble_eq_true rfl⟩) hw (fun H locs hw => ?_)
  exact ep_retiR hx hb hr hlocks hw hf dJ3_indexOf_6
theorem hdX5_vowel : yX5_vowel.cls = RX5 ∧ yX5_vowel.cls ≠ "java/lang/invoke/MethodHandle" ∧ yX5_vowel.cls ≠ "java/lang/invoke/VarHandle" ∧ (parseMethodDescriptor yX5_vowel.desc).map (fun d => d.parameters.length) = some 0 := by decide +kernel
theorem ckX5_vowel {h : Hp} {a0 : Nat} {res : Thr ⊕ (Int32 × Hp)} (hf : fX5_vowel h a0 = some res) : ep_cls h a0 = some 5 := by
  unfold fX5_vowel at hf
  exact (oi_c hf).1
abbrev wX5_vowel (p : Program) (l : Launch) (e : Env) (s : State) (m : MethodId) (below : List Frame) (meth : Method) (c : Code) (G : EG) (h : Hp) (a0 : Nat) (res : Int32 × Hp) (k9 n9 : Nat) (H : Heap) (locs : List Loc) (g : JFrame) : Prop := W p l e (headSpec (ws_ yX5_vowel cX5_vowel 2 (some .int)) ({ frames := 7, cells := 0, slots := 0, locals := 157 } : Room)).room s m ([.ref a0] : List Value).toArray below meth c H locs k9 n9 (MQ below (ep_Qi G ep_cl res.2 res.1) ([.ref a0] : List Value).toArray s 0 0 (ep_A G)) g
set_option maxHeartbeats 4000000 in
theorem metX5_vowel (l : Launch) (G : EG) (h : Hp) (a0 : Nat) {res : Int32 × Hp} (hf : fX5_vowel h a0 = some (.inr res)) : Met l yX5_vowel (ws_ yX5_vowel cX5_vowel 2 (some .int)) ({ frames := 7, cells := 0, slots := 0, locals := 157 } : Room) (ep_Pc G ep_cl h [.ref a0]) (ep_Qi G ep_cl res.2 res.1) 0 0 (ep_A G) := by
  refine Met.ofW (cc := cX5_vowel) (maxL := 2) (ret := (some .int)) (by decide) rfl ?_
  intro p e s m args below meth c s₁ B hml hv
  obtain ⟨rfl, hR, hK, hZ⟩ := hv
  have hx := B.exec
  have hb := B.bytes
  have hr := B.returns
  have hlocks := B.notSynchronized
  have hts := atoms_spec (ws := (ws_ yX5_vowel cX5_vowel 2 (some .int))) B.pre
  have hts : ∀ w ∈ lw_all, w.before _ s = true := fun w h => hts w (List.mem_cons_of_mem _ h)
  have hown : s.vm.findClass RX5 = some m.cls := findClass_of_methodNamed B.named
  have hw : ep_W G ep_cl h s s.heap [] := ⟨hR, va_S.rf⟩
  have hl := lv_entry ([.ref a0]) (n := 2) (Nat.le_of_ble_eq_true rfl)
  rw [lg_entry_eq]
  generalize (lg_sl ([.ref a0]) ++ List.replicate (2 - (lg_sl ([.ref a0])).length) Slot.unset).toArray = ls at hl ⊢
  have hl : lv_has ls 2 [(0, .ref a0)] := hl
  unfold fX5_vowel at hf
  have hf := (oi_c hf).2
  show wX5_vowel p l e s m below meth c G h a0 res 0 0 s.heap ([]) (F0 m 0 ls [])
  refine lv_aload_n hx hb dX5_vowel_0 rfl (lv_at hl 0 rfl) ?_
  refine lv_aload_n hx hb dX5_vowel_1 rfl (lv_at hl 0 rfl) ?_
  obtain ⟨v1, ev1, hf⟩ := ob_s hf
  refine ep_get (C := RX5) (T := TX5) (N := 11) (ci := 5) hx hb hts in_X5 hown hK hw rfl 9 (by decide) q322 (gI_f ev1) dX5_vowel_2 ?_
  refine lv_iconst (v := iI 1) hx hb dX5_vowel_5 rfl ?_
  have hJ2 : wX5_vowel p l e s m below meth c G h a0 res 0 0 s.heap ([]) (F0 m 14 ls [.int (if v1 = (iI 1) then iI 1 else iI 0), .ref a0]) := by
    refine lv_iconst (v := iI 2) hx hb dX5_vowel_14 rfl ?_
    obtain ⟨zo4, eo4, hko4⟩ := orL_s hf
    rcases zo4 with xo4 | o4
    · have hf := orL_1 hko4 rfl
      cases hf
    have hf := orL_2 hko4 rfl
    refine ep_callv0 (va_runV (As := [.int (if v1 = (iI 1) then iI 1 else iI 0), .int (iI 2)]) (rest := []) ⟨hx, hb, hml, hown, hts⟩ (metX5_must l G h a0 (if v1 = (iI 1) then iI 1 else iI 0) (iI 2) eo4) (cwV 2 hts (lw_V q215 q217 qs2 q91 q218) rfl rfl rfl hdX5_must ⟨Nat.le_of_ble_eq_true rfl, Nat.le_of_ble_eq_true rfl⟩) (ep_preV hK hZ hw rfl (ckX5_must eo4)) rfl rfl hl.1 rfl (lv_room (Nat.le_of_ble_eq_true rfl)) dX5_vowel_15 ⟨Nat.le_of_ble_eq_true rfl, Nat.le_of_ble_eq_true rfl⟩) hw (fun H locs hw => ?_)
    refine lv_aload_n hx hb dX5_vowel_18 rfl (lv_at hl 0 rfl) ?_
    refine lv_aload_n hx hb dX5_vowel_19 rfl (lv_at hl 0 rfl) ?_
    obtain ⟨v5, ev5, hf⟩ := ob_s hf
    refine ep_get (C := RX5) (T := TX5) (N := 11) (ci := 5) hx hb hts in_X5 hown hK hw rfl 8 (by decide) q321 (gI_f ev5) dX5_vowel_20 ?_
    refine lv_aload_n hx hb dX5_vowel_23 rfl (lv_at hl 0 rfl) ?_
    obtain ⟨v6, ev6, hf⟩ := ob_s hf
    refine ep_get (C := RX5) (T := TX5) (N := 11) (ci := 5) hx hb hts in_X5 hown hK hw rfl 7 (by decide) q320 (gI_f ev6) dX5_vowel_24 ?_
    refine lv_isub hx hb dX5_vowel_27 ?_
    refine lv_iconst (v := iI 1) hx hb dX5_vowel_28 rfl ?_
    obtain ⟨ox7, ho7, hk7⟩ := orL_s hf
    have hT7 : ∀ r, ox7 = .inl r → some r = some (.inr res) := fun r eo => (by have e := orL_1 hk7 eo; exact e)
    have hJ7 : ∀ o7, ox7 = .inr o7 → ∀ (H : Heap) (locs : List Loc) (ls : Array Slot), ep_W G ep_cl o4 s H locs → lv_has ls 2 [(0, .ref a0)] → wX5_vowel p l e s m below meth c G h a0 res 0 0 H locs (F0 m 52 ls [.ref a0]) := by
      intro o7 eo H locs ls hw hl
      have hf := orL_2 hk7 eo
      refine lv_iconst (v := iI 0) hx hb dX5_vowel_52 rfl ?_
      refine lv_iconst (v := iI 3) hx hb dX5_vowel_53 rfl ?_
      obtain ⟨zo18, eo18, hko18⟩ := orL_s hf
      rcases zo18 with xo18 | o18
      · have hf := orL_1 hko18 rfl
        cases hf
      have hf := orL_2 hko18 rfl
      refine ep_callv0 (va_runV (As := [.int (iI 0), .int (iI 3)]) (rest := []) ⟨hx, hb, hml, hown, hts⟩ (metX5_must l G o4 a0 (iI 0) (iI 3) eo18) (cwV 2 hts (lw_V q215 q217 qs2 q91 q218) rfl rfl rfl hdX5_must ⟨Nat.le_of_ble_eq_true rfl, Nat.le_of_ble_eq_true rfl⟩) (ep_preV hK hZ hw rfl (ckX5_must eo18)) rfl rfl hl.1 rfl (lv_room (Nat.le_of_ble_eq_true rfl)) dX5_vowel_54 ⟨Nat.le_of_ble_eq_true rfl, Nat.le_of_ble_eq_true rfl⟩) hw (fun H locs hw => ?_)
      refine va_ldcS hx hb hown hZ.2.2.2.2 dX5_vowel_57 ?_
      refine lv_aload_n hx hb dX5_vowel_59 rfl (lv_at hl 0 rfl) ?_
      refine lv_aload_n hx hb dX5_vowel_60 rfl (lv_at hl 0 rfl) ?_
      obtain ⟨v19, ev19, hf⟩ := ob_s hf
      refine ep_get (C := RX5) (T := TX5) (N := 11) (ci := 5) hx hb hts in_X5 hown hK hw rfl 7 (by decide) q320 (gI_f ev19) dX5_vowel_61 ?_
      obtain ⟨v20, ev20, hf⟩ := ob_s hf
      refine ep_calli0 (va_runV (As := [.int v19]) (rest := [.ref (G.2.2.2 (10 + 0))]) ⟨hx, hb, hml, hown, hts⟩ (metX5_at l G o18 a0 v19 ev20) (cwV 1 hts (lw_V q206 q208 qs1 q91 q209) rfl rfl rfl hdX5_at ⟨Nat.le_of_ble_eq_true rfl, Nat.le_of_ble_eq_true rfl⟩) (ep_preV hK hZ hw rfl (ckX5_at ev20)) rfl rfl hl.1 rfl (lv_room (Nat.le_of_ble_eq_true rfl)) dX5_vowel_64 ⟨Nat.le_of_ble_eq_true rfl, Nat.le_of_ble_eq_true rfl⟩) hw (fun H locs hw => ?_)
      obtain ⟨v21, ev21, hf⟩ := ob_s hf
      refine ep_calli0 (va_runV (As := [.int v20]) (rest := []) ⟨hx, hb, hml, hown, hts⟩ (metJ3_indexOf l G o18 0 v20 ev21) (cwV 1 hts (lw_V q441 q442 q443 q96 q444) rfl rfl rfl hdJ3_indexOf ⟨Nat.le_of_ble_eq_true rfl, Nat.le_of_ble_eq_true rfl⟩) (ep_preK (by decide) hK hZ hw) rfl rfl hl.1 rfl (lv_room (Nat.le_of_ble_eq_true rfl)) dX5_vowel_67 ⟨Nat.le_of_ble_eq_true rfl, Nat.le_of_ble_eq_true rfl⟩) hw (fun H locs hw => ?_)
      refine lv_istore_n (lv' := [(1, .int v21), (0, .ref a0)]) hx hb dX5_vowel_70 rfl hl (by decide) rfl (fun ls hl => ?_)
      refine lv_aload_n hx hb dX5_vowel_71 rfl (lv_at hl 1 rfl) ?_
      obtain ⟨zo22, eo22, hko22⟩ := orL_s hf
      rcases zo22 with xo22 | o22
      · have hf := orL_1 hko22 rfl
        cases hf
      have hf := orL_2 hko22 rfl
      refine ep_callv0 (va_runV (As := []) (rest := []) ⟨hx, hb, hml, hown, hts⟩ (metX5_next l G o18 a0 eo22) (cwV 0 hts (lw_V q202 q204 qs0 q91 q205) rfl rfl rfl hdX5_next ⟨Nat.le_of_ble_eq_true rfl, Nat.le_of_ble_eq_true rfl⟩) (ep_preV hK hZ hw rfl (ckX5_next eo22)) rfl rfl hl.1 rfl (lv_room (Nat.le_of_ble_eq_true rfl)) dX5_vowel_72 ⟨Nat.le_of_ble_eq_true rfl, Nat.le_of_ble_eq_true rfl⟩) hw (fun H locs hw => ?_)
      refine lv_iload_n hx hb dX5_vowel_75 rfl (lv_at hl 0 rfl) ?_
      exact ep_retiW hx hb hr hlocks hw (sm_r hf) dX5_vowel_76
    refine lv_icmp_ne (tgt := 52) hx hb dX5_vowel_29 (by decide) (fun c8 => ?_) (fun c8 => ?_)
    · have ho7 := oi_f ho7 c8
      exact hJ7 _ (Option.some.inj ho7).symm _ _ _ hw (lv_sub hl [0] rfl)
    · have ho7 := oi_t ho7 c8
      refine va_ldcS hx hb hown hZ.2.2.2.2 dX5_vowel_32 ?_
      refine lv_aload_n hx hb dX5_vowel_34 rfl (lv_at hl 0 rfl) ?_
      refine lv_aload_n hx hb dX5_vowel_35 rfl (lv_at hl 0 rfl) ?_
      obtain ⟨v9, ev9, ho7⟩ := ob_s ho7
      refine ep_get (C := RX5) (T := TX5) (N := 11) (ci := 5) hx hb hts in_X5 hown hK hw rfl 7 (by decide) q320 (gI_f ev9) dX5_vowel_36 ?_
      obtain ⟨v10, ev10, ho7⟩ := ob_s ho7
      refine ep_calli0 (va_runV (As := [.int v9]) (rest := [.ref (G.2.2.2 (10 + 0)), .ref a0]) ⟨hx, hb, hml, hown, hts⟩ (metX5_at l G o4 a0 v9 ev10) (cwV 1 hts (lw_V q206 q208 qs1 q91 q209) rfl rfl rfl hdX5_at ⟨Nat.le_of_ble_eq_true rfl, Nat.le_of_ble_eq_true rfl⟩) (ep_preV hK hZ hw rfl (ckX5_at ev10)) rfl rfl hl.1 rfl (lv_room (Nat.le_of_ble_eq_true rfl)) dX5_vowel_39 ⟨Nat.le_of_ble_eq_true rfl, Nat.le_of_ble_eq_true rfl⟩) hw (fun H locs hw => ?_)
      obtain ⟨v11, ev11, ho7⟩ := ob_s ho7
      refine ep_calli0 (va_runV (As := [.int v10]) (rest := [.ref a0]) ⟨hx, hb, hml, hown, hts⟩ (metJ3_indexOf l G o4 0 v10 ev11) (cwV 1 hts (lw_V q441 q442 q443 q96 q444) rfl rfl rfl hdJ3_indexOf ⟨Nat.le_of_ble_eq_true rfl, Nat.le_of_ble_eq_true rfl⟩) (ep_preK (by decide) hK hZ hw) rfl rfl hl.1 rfl (lv_room (Nat.le_of_ble_eq_true rfl)) dX5_vowel_42 ⟨Nat.le_of_ble_eq_true rfl, Nat.le_of_ble_eq_true rfl⟩) hw (fun H locs hw => ?_)
      refine lv_if_lt (tgt := 52) hx hb dX5_vowel_45 (by decide) (fun c12 => ?_) (fun c12 => ?_)
      · have ho7 := oi_t ho7 c12
        exact hJ7 _ (Option.some.inj ho7).symm _ _ _ hw (lv_sub hl [0] rfl)
      · have ho7 := oi_f ho7 c12
        refine lv_iconst (v := iI 1) hx hb dX5_vowel_48 rfl ?_
        refine lv_goto (tgt := 53) hx hb dX5_vowel_49 (by decide) ?_
        refine lv_iconst (v := iI 3) hx hb dX5_vowel_53 rfl ?_
        obtain ⟨zo13, eo13, hko13⟩ := orL_s ho7
        rcases zo13 with xo13 | o13
        · have ho7 := orL_1 hko13 rfl
          cases hT7 _ (Option.some.inj ho7).symm
        have ho7 := orL_2 hko13 rfl
        refine ep_callv0 (va_runV (As := [.int (iI 1), .int (iI 3)]) (rest := []) ⟨hx, hb, hml, hown, hts⟩ (metX5_must l G o4 a0 (iI 1) (iI 3) eo13) (cwV 2 hts (lw_V q215 q217 qs2 q91 q218) rfl rfl rfl hdX5_must ⟨Nat.le_of_ble_eq_true rfl, Nat.le_of_ble_eq_true rfl⟩) (ep_preV hK hZ hw rfl (ckX5_must eo13)) rfl rfl hl.1 rfl (lv_room (Nat.le_of_ble_eq_true rfl)) dX5_vowel_54 ⟨Nat.le_of_ble_eq_true rfl, Nat.le_of_ble_eq_true rfl⟩) hw (fun H locs hw => ?_)
        refine va_ldcS hx hb hown hZ.2.2.2.2 dX5_vowel_57 ?_
        refine lv_aload_n hx hb dX5_vowel_59 rfl (lv_at hl 0 rfl) ?_
        refine lv_aload_n hx hb dX5_vowel_60 rfl (lv_at hl 0 rfl) ?_
        obtain ⟨v14, ev14, ho7⟩ := ob_s ho7
        refine ep_get (C := RX5) (T := TX5) (N := 11) (ci := 5) hx hb hts in_X5 hown hK hw rfl 7 (by decide) q320 (gI_f ev14) dX5_vowel_61 ?_
        obtain ⟨v15, ev15, ho7⟩ := ob_s ho7
        refine ep_calli0 (va_runV (As := [.int v14]) (rest := [.ref (G.2.2.2 (10 + 0))]) ⟨hx, hb, hml, hown, hts⟩ (metX5_at l G o13 a0 v14 ev15) (cwV 1 hts (lw_V q206 q208 qs1 q91 q209) rfl rfl rfl hdX5_at ⟨Nat.le_of_ble_eq_true rfl, Nat.le_of_ble_eq_true rfl⟩) (ep_preV hK hZ hw rfl (ckX5_at ev15)) rfl rfl hl.1 rfl (lv_room (Nat.le_of_ble_eq_true rfl)) dX5_vowel_64 ⟨Nat.le_of_ble_eq_true rfl, Nat.le_of_ble_eq_true rfl⟩) hw (fun H locs hw => ?_)
        obtain ⟨v16, ev16, ho7⟩ := ob_s ho7
        refine ep_calli0 (va_runV (As := [.int v15]) (rest := []) ⟨hx, hb, hml, hown, hts⟩ (metJ3_indexOf l G o13 0 v15 ev16) (cwV 1 hts (lw_V q441 q442 q443 q96 q444) rfl rfl rfl hdJ3_indexOf ⟨Nat.le_of_ble_eq_true rfl, Nat.le_of_ble_eq_true rfl⟩) (ep_preK (by decide) hK hZ hw) rfl rfl hl.1 rfl (lv_room (Nat.le_of_ble_eq_true rfl)) dX5_vowel_67 ⟨Nat.le_of_ble_eq_true rfl, Nat.le_of_ble_eq_true rfl⟩) hw (fun H locs hw => ?_)
        refine lv_istore_n (lv' := [(1, .int v16), (0, .ref a0)]) hx hb dX5_vowel_70 rfl hl (by decide) rfl (fun ls hl => ?_)
        refine lv_aload_n hx hb dX5_vowel_71 rfl (lv_at hl 1 rfl) ?_
        obtain ⟨zo17, eo17, hko17⟩ := orL_s ho7
        rcases zo17 with xo17 | o17
        · have ho7 := orL_1 hko17 rfl
          cases hT7 _ (Option.some.inj ho7).symm
        have ho7 := orL_2 hko17 rfl
        refine ep_callv0 (va_runV (As := []) (rest := []) ⟨hx, hb, hml, hown, hts⟩ (metX5_next l G o13 a0 eo17) (cwV 0 hts (lw_V q202 q204 qs0 q91 q205) rfl rfl rfl hdX5_next ⟨Nat.le_of_ble_eq_true rfl, Nat.le_of_ble_eq_true rfl⟩) (ep_preV hK hZ hw rfl (ckX5_next eo17)) rfl rfl hl.1 rfl (lv_room (Nat.le_of_ble_eq_true rfl)) dX5_vowel_72 ⟨Nat.le_of_ble_eq_true rfl, Nat.le_of_ble_eq_true rfl⟩) hw (fun H locs hw => ?_)
        refine lv_iload_n hx hb dX5_vowel_75 rfl (lv_at hl 0 rfl) ?_
        exact ep_retiW hx hb hr hlocks hw (sm_r (hT7 _ (Option.some.inj ho7).symm)) dX5_vowel_76
  refine lv_icmp_ne (tgt := 13) hx hb dX5_vowel_6 (by decide) (fun c3 => ?_) (fun c3 => ?_)
  · refine lv_iconst (v := iI 0) hx hb dX5_vowel_13 rfl ?_
    rw [if_neg c3] at hJ2
    exact hJ2
  · refine lv_iconst (v := iI 1) hx hb dX5_vowel_9 rfl ?_
    refine lv_goto (tgt := 14) hx hb dX5_vowel_10 (by decide) ?_
    rw [if_pos c3] at hJ2
    exact hJ2
abbrev wTX5_vowel (p : Program) (l : Launch) (e : Env) (s : State) (m : MethodId) (below : List Frame) (meth : Method) (c : Code) (G : EG) (h : Hp) (a0 : Nat) (res : Thr) (k9 n9 : Nat) (H : Heap) (locs : List Loc) (g : JFrame) : Prop := W p l e (headSpec (ws_ yX5_vowel cX5_vowel 2 (some .int)) ({ frames := 7, cells := 1, slots := 8, locals := 157 } : Room)).room s m ([.ref a0] : List Value).toArray below meth c H locs k9 n9 (MQT below (ep_Qt G ep_cl res) ([.ref a0] : List Value).toArray s 1 8 (ep_A G)) g
set_option maxHeartbeats 4000000 in
theorem metTX5_vowel (l : Launch) (G : EG) (h : Hp) (a0 : Nat) {res : Thr} (hf : fX5_vowel h a0 = some (.inl res)) : MetT l yX5_vowel (ws_ yX5_vowel cX5_vowel 2 (some .int)) ({ frames := 7, cells := 1, slots := 8, locals := 157 } : Room) (ep_Pc G ep_cl h [.ref a0]) (ep_Qt G ep_cl res) 1 8 (ep_A G) := by
  refine MetT.ofW (cc := cX5_vowel) (maxL := 2) (ret := (some .int)) (by decide) rfl ?_
  intro p e s m args below meth c s₁ B hml hv
  obtain ⟨rfl, hR, hK, hZ⟩ := hv
  have hx := B.exec
  have hb := B.bytes
  have hr := B.returns
  have hlocks := B.notSynchronized
  have hts := atoms_spec (ws := (ws_ yX5_vowel cX5_vowel 2 (some .int))) B.pre
  have hno : c.exceptionTable.toList = [] := by
    have h := B.noHandlers (hts _ List.mem_cons_self)
    simpa using h
  have hts : ∀ w ∈ lw_all, w.before _ s = true := fun w h => hts w (List.mem_cons_of_mem _ h)
  have hown : s.vm.findClass RX5 = some m.cls := findClass_of_methodNamed B.named
  have hw : ep_W G ep_cl h s s.heap [] := ⟨hR, va_S.rf⟩
  have hl := lv_entry ([.ref a0]) (n := 2) (Nat.le_of_ble_eq_true rfl)
  rw [lg_entry_eq]
  generalize (lg_sl ([.ref a0]) ++ List.replicate (2 - (lg_sl ([.ref a0])).length) Slot.unset).toArray = ls at hl ⊢
  have hl : lv_has ls 2 [(0, .ref a0)] := hl
  unfold fX5_vowel at hf
  have hf := (oi_c hf).2
  show wTX5_vowel p l e s m below meth c G h a0 res 0 0 s.heap ([]) (F0 m 0 ls [])
  refine lv_aload_n hx hb dX5_vowel_0 rfl (lv_at hl 0 rfl) ?_
  refine lv_aload_n hx hb dX5_vowel_1 rfl (lv_at hl 0 rfl) ?_
  obtain ⟨v1, ev1, hf⟩ := ob_s hf
  refine ep_get (C := RX5) (T := TX5) (N := 11) (ci := 5) hx hb hts in_X5 hown hK hw rfl 9 (by decide) q322 (gI_f ev1) dX5_vowel_2 ?_
  refine lv_iconst (v := iI 1) hx hb dX5_vowel_5 rfl ?_
  have hJ2 : wTX5_vowel p l e s m below meth c G h a0 res 0 0 s.heap ([]) (F0 m 14 ls [.int (if v1 = (iI 1) then iI 1 else iI 0), .ref a0]) := by
    refine lv_iconst (v := iI 2) hx hb dX5_vowel_14 rfl ?_
    obtain ⟨zo4, eo4, hko4⟩ := orL_s hf
    rcases zo4 with xo4 | o4
    · have hf := orL_1 hko4 rfl
      exact ep_outT' hno hlocks (ep_runVT (As := [.int (if v1 = (iI 1) then iI 1 else iI 0), .int (iI 2)]) (rest := []) ⟨hx, hb, hml, hown, hts⟩ (metTX5_must l G h a0 (if v1 = (iI 1) then iI 1 else iI 0) (iI 2) eo4) (cwV 2 hts (lw_V q215 q217 qs2 q91 q218) rfl rfl rfl hdX5_must ⟨Nat.le_of_ble_eq_true rfl, Nat.le_of_ble_eq_true rfl⟩) (ep_preV hK hZ hw rfl (ckX5_must eo4)) rfl rfl hl.1 rfl (lv_room (Nat.le_of_ble_eq_true rfl)) dX5_vowel_15 ⟨Nat.le_of_ble_eq_true rfl, Nat.le_of_ble_eq_true rfl⟩) hw hf
    have hf := orL_2 hko4 rfl
    refine ep_callv0 (va_runV (As := [.int (if v1 = (iI 1) then iI 1 else iI 0), .int (iI 2)]) (rest := []) ⟨hx, hb, hml, hown, hts⟩ (metX5_must l G h a0 (if v1 = (iI 1) then iI 1 else iI 0) (iI 2) eo4) (cwV 2 hts (lw_V q215 q217 qs2 q91 q218) rfl rfl rfl hdX5_must ⟨Nat.le_of_ble_eq_true rfl, Nat.le_of_ble_eq_true rfl⟩) (ep_preV hK hZ hw rfl (ckX5_must eo4)) rfl rfl hl.1 rfl (lv_room (Nat.le_of_ble_eq_true rfl)) dX5_vowel_15 ⟨Nat.le_of_ble_eq_true rfl, Nat.le_of_ble_eq_true rfl⟩) hw (fun H locs hw => ?_)
    refine lv_aload_n hx hb dX5_vowel_18 rfl (lv_at hl 0 rfl) ?_
    refine lv_aload_n hx hb dX5_vowel_19 rfl (lv_at hl 0 rfl) ?_
    obtain ⟨v5, ev5, hf⟩ := ob_s hf
    refine ep_get (C := RX5) (T := TX5) (N := 11) (ci := 5) hx hb hts in_X5 hown hK hw rfl 8 (by decide) q321 (gI_f ev5) dX5_vowel_20 ?_
    refine lv_aload_n hx hb dX5_vowel_23 rfl (lv_at hl 0 rfl) ?_
    obtain ⟨v6, ev6, hf⟩ := ob_s hf
    refine ep_get (C := RX5) (T := TX5) (N := 11) (ci := 5) hx hb hts in_X5 hown hK hw rfl 7 (by decide) q320 (gI_f ev6) dX5_vowel_24 ?_
    refine lv_isub hx hb dX5_vowel_27 ?_
    refine lv_iconst (v := iI 1) hx hb dX5_vowel_28 rfl ?_
    obtain ⟨ox7, ho7, hk7⟩ := orL_s hf
    have hT7 : ∀ r, ox7 = .inl r → some r = some (.inl res) := fun r eo => (by have e := orL_1 hk7 eo; exact e)
    have hJ7 : ∀ o7, ox7 = .inr o7 → ∀ (H : Heap) (locs : List Loc) (ls : Array Slot), ep_W G ep_cl o4 s H locs → lv_has ls 2 [(0, .ref a0)] → wTX5_vowel p l e s m below meth c G h a0 res 0 0 H locs (F0 m 52 ls [.ref a0]) := by
      intro o7 eo H locs ls hw hl
      have hf := orL_2 hk7 eo
      refine lv_iconst (v := iI 0) hx hb dX5_vowel_52 rfl ?_
      refine lv_iconst (v := iI 3) hx hb dX5_vowel_53 rfl ?_
      obtain ⟨zo18, eo18, hko18⟩ := orL_s hf
      rcases zo18 with xo18 | o18
      · have hf := orL_1 hko18 rfl
        exact ep_outT' hno hlocks (ep_runVT (As := [.int (iI 0), .int (iI 3)]) (rest := []) ⟨hx, hb, hml, hown, hts⟩ (metTX5_must l G o4 a0 (iI 0) (iI 3) eo18) (cwV 2 hts (lw_V q215 q217 qs2 q91 q218) rfl rfl rfl hdX5_must ⟨Nat.le_of_ble_eq_true rfl, Nat.le_of_ble_eq_true rfl⟩) (ep_preV hK hZ hw rfl (ckX5_must eo18)) rfl rfl hl.1 rfl (lv_room (Nat.le_of_ble_eq_true rfl)) dX5_vowel_54 ⟨Nat.le_of_ble_eq_true rfl, Nat.le_of_ble_eq_true rfl⟩) hw hf
      have hf := orL_2 hko18 rfl
      refine ep_callv0 (va_runV (As := [.int (iI 0), .int (iI 3)]) (rest := []) ⟨hx, hb, hml, hown, hts⟩ (metX5_must l G o4 a0 (iI 0) (iI 3) eo18) (cwV 2 hts (lw_V q215 q217 qs2 q91 q218) rfl rfl rfl hdX5_must ⟨Nat.le_of_ble_eq_true rfl, Nat.le_of_ble_eq_true rfl⟩) (ep_preV hK hZ hw rfl (ckX5_must eo18)) rfl rfl hl.1 rfl (lv_room (Nat.le_of_ble_eq_true rfl)) dX5_vowel_54 ⟨Nat.le_of_ble_eq_true rfl, Nat.le_of_ble_eq_true rfl⟩) hw (fun H locs hw => ?_)
      refine va_ldcS hx hb hown hZ.2.2.2.2 dX5_vowel_57 ?_
      refine lv_aload_n hx hb dX5_vowel_59 rfl (lv_at hl 0 rfl) ?_
      refine lv_aload_n hx hb dX5_vowel_60 rfl (lv_at hl 0 rfl) ?_
      obtain ⟨v19, ev19, hf⟩ := ob_s hf
      refine ep_get (C := RX5) (T := TX5) (N := 11) (ci := 5) hx hb hts in_X5 hown hK hw rfl 7 (by decide) q320 (gI_f ev19) dX5_vowel_61 ?_
      obtain ⟨v20, ev20, hf⟩ := ob_s hf
      refine ep_calli0 (va_runV (As := [.int v19]) (rest := [.ref (G.2.2.2 (10 + 0))]) ⟨hx, hb, hml, hown, hts⟩ (metX5_at l G o18 a0 v19 ev20) (cwV 1 hts (lw_V q206 q208 qs1 q91 q209) rfl rfl rfl hdX5_at ⟨Nat.le_of_ble_eq_true rfl, Nat.le_of_ble_eq_true rfl⟩) (ep_preV hK hZ hw rfl (ckX5_at ev20)) rfl rfl hl.1 rfl (lv_room (Nat.le_of_ble_eq_true rfl)) dX5_vowel_64 ⟨Nat.le_of_ble_eq_true rfl, Nat.le_of_ble_eq_true rfl⟩) hw (fun H locs hw => ?_)
      obtain ⟨v21, ev21, hf⟩ := ob_s hf
      refine ep_calli0 (va_runV (As := [.int v20]) (rest := []) ⟨hx, hb, hml, hown, hts⟩ (metJ3_indexOf l G o18 0 v20 ev21) (cwV 1 hts (lw_V q441 q442 q443 q96 q444) rfl rfl rfl hdJ3_indexOf ⟨Nat.le_of_ble_eq_true rfl, Nat.le_of_ble_eq_true rfl⟩) (ep_preK (by decide) hK hZ hw) rfl rfl hl.1 rfl (lv_room (Nat.le_of_ble_eq_true rfl)) dX5_vowel_67 ⟨Nat.le_of_ble_eq_true rfl, Nat.le_of_ble_eq_true rfl⟩) hw (fun H locs hw => ?_)
      refine lv_istore_n (lv' := [(1, .int v21), (0, .ref a0)]) hx hb dX5_vowel_70 rfl hl (by decide) rfl (fun ls hl => ?_)
      refine lv_aload_n hx hb dX5_vowel_71 rfl (lv_at hl 1 rfl) ?_
      obtain ⟨zo22, eo22, hko22⟩ := orL_s hf
      rcases zo22 with xo22 | o22
      · have hf := orL_1 hko22 rfl
        exact ep_outT' hno hlocks (ep_runVT (As := []) (rest := []) ⟨hx, hb, hml, hown, hts⟩ (metTX5_next l G o18 a0 eo22) (cwV 0 hts (lw_V q202 q204 qs0 q91 q205) rfl rfl rfl hdX5_next ⟨Nat.le_of_ble_eq_true rfl, Nat.le_of_ble_eq_true rfl⟩) (ep_preV hK hZ hw rfl (ckX5_next eo22)) rfl rfl hl.1 rfl (lv_room (Nat.le_of_ble_eq_true rfl)) dX5_vowel_72 ⟨Nat.le_of_ble_eq_true rfl, Nat.le_of_ble_eq_true rfl⟩) hw hf
      have hf := orL_2 hko22 rfl
      refine ep_callv0 (va_runV (As := []) (rest := []) ⟨hx, hb, hml, hown, hts⟩ (metX5_next l G o18 a0 eo22) (cwV 0 hts (lw_V q202 q204 qs0 q91 q205) rfl rfl rfl hdX5_next ⟨Nat.le_of_ble_eq_true rfl, Nat.le_of_ble_eq_true rfl⟩) (ep_preV hK hZ hw rfl (ckX5_next eo22)) rfl rfl hl.1 rfl (lv_room (Nat.le_of_ble_eq_true rfl)) dX5_vowel_72 ⟨Nat.le_of_ble_eq_true rfl, Nat.le_of_ble_eq_true rfl⟩) hw (fun H locs hw => ?_)
      refine lv_iload_n hx hb dX5_vowel_75 rfl (lv_at hl 0 rfl) ?_
      cases hf
    refine lv_icmp_ne (tgt := 52) hx hb dX5_vowel_29 (by decide) (fun c8 => ?_) (fun c8 => ?_)
    · have ho7 := oi_f ho7 c8
      exact hJ7 _ (Option.some.inj ho7).symm _ _ _ hw (lv_sub hl [0] rfl)
    · have ho7 := oi_t ho7 c8
      refine va_ldcS hx hb hown hZ.2.2.2.2 dX5_vowel_32 ?_
      refine lv_aload_n hx hb dX5_vowel_34 rfl (lv_at hl 0 rfl) ?_
      refine lv_aload_n hx hb dX5_vowel_35 rfl (lv_at hl 0 rfl) ?_
      obtain ⟨v9, ev9, ho7⟩ := ob_s ho7
      refine ep_get (C := RX5) (T := TX5) (N := 11) (ci := 5) hx hb hts in_X5 hown hK hw rfl 7 (by decide) q320 (gI_f ev9) dX5_vowel_36 ?_
      obtain ⟨v10, ev10, ho7⟩ := ob_s ho7
      refine ep_calli0 (va_runV (As := [.int v9]) (rest := [.ref (G.2.2.2 (10 + 0)), .ref a0]) ⟨hx, hb, hml, hown, hts⟩ (metX5_at l G o4 a0 v9 ev10) (cwV 1 hts (lw_V q206 q208 qs1 q91 q209) rfl rfl rfl hdX5_at ⟨Nat.le_of_ble_eq_true rfl, Nat.le_of_ble_eq_true rfl⟩) (ep_preV hK hZ hw rfl (ckX5_at ev10)) rfl rfl hl.1 rfl (lv_room (Nat.le_of_ble_eq_true rfl)) dX5_vowel_39 ⟨Nat.le_of_ble_eq_true rfl, Nat.le_of_ble_eq_true rfl⟩) hw (fun H locs hw => ?_)
      obtain ⟨v11, ev11, ho7⟩ := ob_s ho7
      refine ep_calli0 (va_runV (As := [.int v10]) (rest := [.ref a0]) ⟨hx, hb, hml, hown, hts⟩ (metJ3_indexOf l G o4 0 v10 ev11) (cwV 1 hts (lw_V q441 q442 q443 q96 q444) rfl rfl rfl hdJ3_indexOf ⟨Nat.le_of_ble_eq_true rfl, Nat.le_of_ble_eq_true rfl⟩) (ep_preK (by decide) hK hZ hw) rfl rfl hl.1 rfl (lv_room (Nat.le_of_ble_eq_true rfl)) dX5_vowel_42 ⟨Nat.le_of_ble_eq_true rfl, Nat.le_of_ble_eq_true rfl⟩) hw (fun H locs hw => ?_)
      refine lv_if_lt (tgt := 52) hx hb dX5_vowel_45 (by decide) (fun c12 => ?_) (fun c12 => ?_)
      · have ho7 := oi_t ho7 c12
        exact hJ7 _ (Option.some.inj ho7).symm _ _ _ hw (lv_sub hl [0] rfl)
      · have ho7 := oi_f ho7 c12
        refine lv_iconst (v := iI 1) hx hb dX5_vowel_48 rfl ?_
        refine lv_goto (tgt := 53) hx hb dX5_vowel_49 (by decide) ?_
        refine lv_iconst (v := iI 3) hx hb dX5_vowel_53 rfl ?_
        obtain ⟨zo13, eo13, hko13⟩ := orL_s ho7
        rcases zo13 with xo13 | o13
        · have ho7 := orL_1 hko13 rfl
          exact ep_outT' hno hlocks (ep_runVT (As := [.int (iI 1), .int (iI 3)]) (rest := []) ⟨hx, hb, hml, hown, hts⟩ (metTX5_must l G o4 a0 (iI 1) (iI 3) eo13) (cwV 2 hts (lw_V q215 q217 qs2 q91 q218) rfl rfl rfl hdX5_must ⟨Nat.le_of_ble_eq_true rfl, Nat.le_of_ble_eq_true rfl⟩) (ep_preV hK hZ hw rfl (ckX5_must eo13)) rfl rfl hl.1 rfl (lv_room (Nat.le_of_ble_eq_true rfl)) dX5_vowel_54 ⟨Nat.le_of_ble_eq_true rfl, Nat.le_of_ble_eq_true rfl⟩) hw (hT7 _ (Option.some.inj ho7).symm)
        have ho7 := orL_2 hko13 rfl
        refine ep_callv0 (va_runV (As := [.int (iI 1), .int (iI 3)]) (rest := []) ⟨hx, hb, hml, hown, hts⟩ (metX5_must l G o4 a0 (iI 1) (iI 3) eo13) (cwV 2 hts (lw_V q215 q217 qs2 q91 q218) rfl rfl rfl hdX5_must ⟨Nat.le_of_ble_eq_true rfl, Nat.le_of_ble_eq_true rfl⟩) (ep_preV hK hZ hw rfl (ckX5_must eo13)) rfl rfl hl.1 rfl (lv_room (Nat.le_of_ble_eq_true rfl)) dX5_vowel_54 ⟨Nat.le_of_ble_eq_true rfl, Nat.le_of_ble_eq_true rfl⟩) hw (fun H locs hw => ?_)
        refine va_ldcS hx hb hown hZ.2.2.2.2 dX5_vowel_57 ?_
        refine lv_aload_n hx hb dX5_vowel_59 rfl (lv_at hl 0 rfl) ?_
        refine lv_aload_n hx hb dX5_vowel_60 rfl (lv_at hl 0 rfl) ?_
        obtain ⟨v14, ev14, ho7⟩ := ob_s ho7
        refine ep_get (C := RX5) (T := TX5) (N := 11) (ci := 5) hx hb hts in_X5 hown hK hw rfl 7 (by decide) q320 (gI_f ev14) dX5_vowel_61 ?_
        obtain ⟨v15, ev15, ho7⟩ := ob_s ho7
        refine ep_calli0 (va_runV (As := [.int v14]) (rest := [.ref (G.2.2.2 (10 + 0))]) ⟨hx, hb, hml, hown, hts⟩ (metX5_at l G o13 a0 v14 ev15) (cwV 1 hts (lw_V q206 q208 qs1 q91 q209) rfl rfl rfl hdX5_at ⟨Nat.le_of_ble_eq_true rfl, Nat.le_of_ble_eq_true rfl⟩) (ep_preV hK hZ hw rfl (ckX5_at ev15)) rfl rfl hl.1 rfl (lv_room (Nat.le_of_ble_eq_true rfl)) dX5_vowel_64 ⟨Nat.le_of_ble_eq_true rfl, Nat.le_of_ble_eq_true rfl⟩) hw (fun H locs hw => ?_)
        obtain ⟨v16, ev16, ho7⟩ := ob_s ho7
        refine ep_calli0 (va_runV (As := [.int v15]) (rest := []) ⟨hx, hb, hml, hown, hts⟩ (metJ3_indexOf l G o13 0 v15 ev16) (cwV 1 hts (lw_V q441 q442 q443 q96 q444) rfl rfl rfl hdJ3_indexOf ⟨Nat.le_of_ble_eq_true rfl, Nat.le_of_ble_eq_true rfl⟩) (ep_preK (by decide) hK hZ hw) rfl rfl hl.1 rfl (lv_room (Nat.le_of_ble_eq_true rfl)) dX5_vowel_67 ⟨Nat.le_of_ble_eq_true rfl, Nat.le_of_ble_eq_true rfl⟩) hw (fun H locs hw => ?_)
        refine lv_istore_n (lv' := [(1, .int v16), (0, .ref a0)]) hx hb dX5_vowel_70 rfl hl (by decide) rfl (fun ls hl => ?_)
        refine lv_aload_n hx hb dX5_vowel_71 rfl (lv_at hl 1 rfl) ?_
        obtain ⟨zo17, eo17, hko17⟩ := orL_s ho7
        rcases zo17 with xo17 | o17
        · have ho7 := orL_1 hko17 rfl
          exact ep_outT' hno hlocks (ep_runVT (As := []) (rest := []) ⟨hx, hb, hml, hown, hts⟩ (metTX5_next l G o13 a0 eo17) (cwV 0 hts (lw_V q202 q204 qs0 q91 q205) rfl rfl rfl hdX5_next ⟨Nat.le_of_ble_eq_true rfl, Nat.le_of_ble_eq_true rfl⟩) (ep_preV hK hZ hw rfl (ckX5_next eo17)) rfl rfl hl.1 rfl (lv_room (Nat.le_of_ble_eq_true rfl)) dX5_vowel_72 ⟨Nat.le_of_ble_eq_true rfl, Nat.le_of_ble_eq_true rfl⟩) hw (hT7 _ (Option.some.inj ho7).symm)
        have ho7 := orL_2 hko17 rfl
        refine ep_callv0 (va_runV (As := []) (rest := []) ⟨hx, hb, hml, hown, hts⟩ (metX5_next l G o13 a0 eo17) (cwV 0 hts (lw_V q202 q204 qs0 q91 q205) rfl rfl rfl hdX5_next ⟨Nat.le_of_ble_eq_true rfl, Nat.le_of_ble_eq_true rfl⟩) (ep_preV hK hZ hw rfl (ckX5_next eo17)) rfl rfl hl.1 rfl (lv_room (Nat.le_of_ble_eq_true rfl)) dX5_vowel_72 ⟨Nat.le_of_ble_eq_true rfl, Nat.le_of_ble_eq_true rfl⟩) hw (fun H locs hw => ?_)
        refine lv_iload_n hx hb dX5_vowel_75 rfl (lv_at hl 0 rfl) ?_
        cases hT7 _ (Option.some.inj ho7).symm
  refine lv_icmp_ne (tgt := 13) hx hb dX5_vowel_6 (by decide) (fun c3 => ?_) (fun c3 => ?_)
  · refine lv_iconst (v := iI 0) hx hb dX5_vowel_13 rfl ?_
    rw [if_neg c3] at hJ2
    exact hJ2
  · refine lv_iconst (v := iI 1) hx hb dX5_vowel_9 rfl ?_
    refine lv_goto (tgt := 14) hx hb dX5_vowel_10 (by decide) ?_
    rw [if_pos c3] at hJ2
    exact hJ2
theorem hdX5_penOf : yX5_penOf.cls = RX5 ∧ yX5_penOf.cls ≠ "java/lang/invoke/MethodHandle" ∧ yX5_penOf.cls ≠ "java/lang/invoke/VarHandle" ∧ (parseMethodDescriptor yX5_penOf.desc).map (fun d => d.parameters.length) = some 0 := by decide +kernel
theorem ckX5_penOf {h : Hp} {a0 : Nat} {res : Thr ⊕ (Hp)} (hf : fX5_penOf h a0 = some res) : ep_cls h a0 = some 5 := by
  unfold fX5_penOf at hf
  exact (oi_c hf).1
abbrev wX5_penOf (p : Program) (l : Launch) (e : Env) (s : State) (m : MethodId) (below : List Frame) (meth : Method) (c : Code) (G : EG) (h : Hp) (a0 : Nat) (res : Hp) (k9 n9 : Nat) (H : Heap) (locs : List Loc) (g : JFrame) : Prop := W p l e (headSpec (ws_ yX5_penOf cX5_penOf 1 none) ({ frames := 9, cells := 0, slots := 0, locals := 203 } : Room)).room s m ([.ref a0] : List Value).toArray below meth c H locs k9 n9 (MQ below (ep_Qv G ep_cl res) ([.ref a0] : List Value).toArray s 0 0 (ep_A G)) g
set_option maxHeartbeats 4000000 in
theorem metX5_penOf (l : Launch) (G : EG) (h : Hp) (a0 : Nat) {res : Hp} (hf : fX5_penOf h a0 = some (.inr res)) : Met l yX5_penOf (ws_ yX5_penOf cX5_penOf 1 none) ({ frames := 9, cells := 0, slots := 0, locals := 203 } : Room) (ep_Pc G ep_cl h [.ref a0]) (ep_Qv G ep_cl res) 0 0 (ep_A G) := by
  refine Met.ofW (cc := cX5_penOf) (maxL := 1) (ret := none) (by decide) rfl ?_
  intro p e s m args below meth c s₁ B hml hv
  obtain ⟨rfl, hR, hK, hZ⟩ := hv
  have hx := B.exec
  have hb := B.bytes
  have hr := B.returns
  have hlocks := B.notSynchronized
  have hts := atoms_spec (ws := (ws_ yX5_penOf cX5_penOf 1 none)) B.pre
  have hts : ∀ w ∈ lw_all, w.before _ s = true := fun w h => hts w (List.mem_cons_of_mem _ h)
  have hown : s.vm.findClass RX5 = some m.cls := findClass_of_methodNamed B.named
  have hw : ep_W G ep_cl h s s.heap [] := ⟨hR, va_S.rf⟩
  have hl := lv_entry ([.ref a0]) (n := 1) (Nat.le_of_ble_eq_true rfl)
  rw [lg_entry_eq]
  generalize (lg_sl ([.ref a0]) ++ List.replicate (1 - (lg_sl ([.ref a0])).length) Slot.unset).toArray = ls at hl ⊢
  have hl : lv_has ls 1 [(0, .ref a0)] := hl
  unfold fX5_penOf at hf
  have hf := (oi_c hf).2
  show wX5_penOf p l e s m below meth c G h a0 res 0 0 s.heap ([]) (F0 m 0 ls [])
  refine lv_aload_n hx hb dX5_penOf_0 rfl (lv_at hl 0 rfl) ?_
  refine lv_aload_n hx hb dX5_penOf_1 rfl (lv_at hl 0 rfl) ?_
  obtain ⟨v1, ev1, hf⟩ := ob_s hf
  refine ep_get (C := RX5) (T := TX5) (N := 11) (ci := 5) hx hb hts in_X5 hown hK hw rfl 3 (by decide) q314 (gI_f ev1) dX5_penOf_2 ?_
  refine lv_iconst (v := iI 4) hx hb dX5_penOf_5 rfl ?_
  have hJ2 : wX5_penOf p l e s m below meth c G h a0 res 0 0 s.heap ([]) (F0 m 14 ls [.int (if (iI 4) ≤ v1 then iI 0 else iI 1), .ref a0]) := by
    refine lv_iconst (v := iI 5) hx hb dX5_penOf_14 rfl ?_
    obtain ⟨zo4, eo4, hko4⟩ := orL_s hf
    rcases zo4 with xo4 | o4
    · have hf := orL_1 hko4 rfl
      cases hf
    have hf := orL_2 hko4 rfl
    refine ep_callv0 (va_runV (As := [.int (if (iI 4) ≤ v1 then iI 0 else iI 1), .int (iI 5)]) (rest := []) ⟨hx, hb, hml, hown, hts⟩ (metX5_must l G h a0 (if (iI 4) ≤ v1 then iI 0 else iI 1) (iI 5) eo4) (cwV 2 hts (lw_V q215 q217 qs2 q91 q218) rfl rfl rfl hdX5_must ⟨Nat.le_of_ble_eq_true rfl, Nat.le_of_ble_eq_true rfl⟩) (ep_preV hK hZ hw rfl (ckX5_must eo4)) rfl rfl hl.1 rfl (lv_room (Nat.le_of_ble_eq_true rfl)) dX5_penOf_15 ⟨Nat.le_of_ble_eq_true rfl, Nat.le_of_ble_eq_true rfl⟩) hw (fun H locs hw => ?_)
    refine lv_aload_n hx hb dX5_penOf_18 rfl (lv_at hl 0 rfl) ?_
    obtain ⟨zo5, eo5, hko5⟩ := orL_s hf
    rcases zo5 with xo5 | o5
    · have hf := orL_1 hko5 rfl
      cases hf
    have hf := orL_2 hko5 rfl
    refine ep_callv0 (va_runV (As := []) (rest := []) ⟨hx, hb, hml, hown, hts⟩ (metX5_next l G o4 a0 eo5) (cwV 0 hts (lw_V q202 q204 qs0 q91 q205) rfl rfl rfl hdX5_next ⟨Nat.le_of_ble_eq_true rfl, Nat.le_of_ble_eq_true rfl⟩) (ep_preV hK hZ hw rfl (ckX5_next eo5)) rfl rfl hl.1 rfl (lv_room (Nat.le_of_ble_eq_true rfl)) dX5_penOf_19 ⟨Nat.le_of_ble_eq_true rfl, Nat.le_of_ble_eq_true rfl⟩) hw (fun H locs hw => ?_)
    refine lv_aload_n hx hb dX5_penOf_22 rfl (lv_at hl 0 rfl) ?_
    obtain ⟨r6, er6, hf⟩ := ob_s hf
    refine ep_get (C := RX5) (T := TX5) (N := 11) (ci := 5) hx hb hts in_X5 hown hK hw rfl 1 (by decide) q309 (gR_f er6) dX5_penOf_23 ?_
    obtain ⟨r7, er7, hf⟩ := ob_s hf
    refine ep_getN (C := RX1) (T := TX1) (N := 11) (ci := 1) hx hb hts in_X1 hown hK hw rfl 1 (by decide) q149 (gR_f er7) dX5_penOf_26 ?_
    refine lv_aload_n hx hb dX5_penOf_29 rfl (lv_at hl 0 rfl) ?_
    obtain ⟨v8, ev8, hf⟩ := ob_s hf
    refine ep_get (C := RX5) (T := TX5) (N := 11) (ci := 5) hx hb hts in_X5 hown hK hw rfl 3 (by decide) q314 (gI_f ev8) dX5_penOf_30 ?_
    refine lv_aload_n hx hb dX5_penOf_33 rfl (lv_at hl 0 rfl) ?_
    obtain ⟨zo9, eo9, hko9⟩ := orL_s hf
    rcases zo9 with xo9 | o9
    · have hf := orL_1 hko9 rfl
      cases hf
    have hf := orL_2 hko9 rfl
    refine ep_calli0 (va_runV (As := []) (rest := [.int v8, .ref r7]) ⟨hx, hb, hml, hown, hts⟩ (metX5_vowel l G o5 a0 eo9) (cwV 0 hts (lw_V q436 q438 qs12 q91 q439) rfl rfl rfl hdX5_vowel ⟨Nat.le_of_ble_eq_true rfl, Nat.le_of_ble_eq_true rfl⟩) (ep_preV hK hZ hw rfl (ckX5_vowel eo9)) rfl rfl hl.1 rfl (lv_room (Nat.le_of_ble_eq_true rfl)) dX5_penOf_34 ⟨Nat.le_of_ble_eq_true rfl, Nat.le_of_ble_eq_true rfl⟩) hw (fun H locs hw => ?_)
    obtain ⟨h10, eh10, hf⟩ := ob_s hf
    refine ep_iast hx hb hK hw eh10 dX5_penOf_37 (fun H locs hw => ?_)
    refine lv_aload_n hx hb dX5_penOf_38 rfl (lv_at hl 0 rfl) ?_
    obtain ⟨r11, er11, hf⟩ := ob_s hf
    refine ep_get (C := RX5) (T := TX5) (N := 11) (ci := 5) hx hb hts in_X5 hown hK hw rfl 1 (by decide) q309 (gR_f er11) dX5_penOf_39 ?_
    obtain ⟨r12, er12, hf⟩ := ob_s hf
    refine ep_getN (C := RX1) (T := TX1) (N := 11) (ci := 1) hx hb hts in_X1 hown hK hw rfl 0 (by decide) q147 (gR_f er12) dX5_penOf_42 ?_
    refine lv_aload_n hx hb dX5_penOf_45 rfl (lv_at hl 0 rfl) ?_
    obtain ⟨v13, ev13, hf⟩ := ob_s hf
    refine ep_get (C := RX5) (T := TX5) (N := 11) (ci := 5) hx hb hts in_X5 hown hK hw rfl 3 (by decide) q314 (gI_f ev13) dX5_penOf_46 ?_
    refine lv_aload_n hx hb dX5_penOf_49 rfl (lv_at hl 0 rfl) ?_
    refine lv_iconst (v := iI 1) hx hb dX5_penOf_50 rfl ?_
    refine lv_bipush (v := iI 9) hx hb dX5_penOf_51 (by decide) ?_
    obtain ⟨zo14, eo14, hko14⟩ := orL_s hf
    rcases zo14 with xo14 | o14
    · have hf := orL_1 hko14 rfl
      cases hf
    have hf := orL_2 hko14 rfl
    refine ep_calli0 (va_runV (As := [.int (iI 1), .int (iI 9)]) (rest := [.int v13, .ref r12]) ⟨hx, hb, hml, hown, hts⟩ (metX5_number l G h10 a0 (iI 1) (iI 9) eo14) (cwV 2 hts (lw_V q418 q420 qs9 q91 q421) rfl rfl rfl hdX5_number ⟨Nat.le_of_ble_eq_true rfl, Nat.le_of_ble_eq_true rfl⟩) (ep_preV hK hZ hw rfl (ckX5_number eo14)) rfl rfl hl.1 rfl (lv_room (Nat.le_of_ble_eq_true rfl)) dX5_penOf_53 ⟨Nat.le_of_ble_eq_true rfl, Nat.le_of_ble_eq_true rfl⟩) hw (fun H locs hw => ?_)
    obtain ⟨h15, eh15, hf⟩ := ob_s hf
    refine ep_iast hx hb hK hw eh15 dX5_penOf_56 (fun H locs hw => ?_)
    refine lv_aload_n hx hb dX5_penOf_57 rfl (lv_at hl 0 rfl) ?_
    refine lv_dup hx hb dX5_penOf_58 rfl ?_
    obtain ⟨v16, ev16, hf⟩ := ob_s hf
    refine ep_get (C := RX5) (T := TX5) (N := 11) (ci := 5) hx hb hts in_X5 hown hK hw rfl 3 (by decide) q314 (gI_f ev16) dX5_penOf_59 ?_
    refine lv_iconst (v := iI 1) hx hb dX5_penOf_62 rfl ?_
    refine lv_iadd hx hb dX5_penOf_63 ?_
    obtain ⟨h17, eh17, hf⟩ := ob_s hf
    refine ep_put (C := RX5) (T := TX5) (N := 11) (ci := 5) hx hb hts in_X5 tyX5 tyX5_ok nmX5 hown hK hw rfl (by decide) 3 (by decide) q314 rfl rfl rfl eh17 dX5_penOf_64 (fun H locs hw => ?_)
    exact ep_retvW hx hb hr hlocks hw (sm_r hf) dX5_penOf_67
  refine lv_icmp_ge (tgt := 13) hx hb dX5_penOf_6 (by decide) (fun c3 => ?_) (fun c3 => ?_)
  · refine lv_iconst (v := iI 0) hx hb dX5_penOf_13 rfl ?_
    rw [if_pos c3] at hJ2
    exact hJ2
  · refine lv_iconst (v := iI 1) hx hb dX5_penOf_9 rfl ?_
    refine lv_goto (tgt := 14) hx hb dX5_penOf_10 (by decide) ?_
    rw [if_neg c3] at hJ2
    exact hJ2
abbrev wTX5_penOf (p : Program) (l : Launch) (e : Env) (s : State) (m : MethodId) (below : List Frame) (meth : Method) (c : Code) (G : EG) (h : Hp) (a0 : Nat) (res : Thr) (k9 n9 : Nat) (H : Heap) (locs : List Loc) (g : JFrame) : Prop := W p l e (headSpec (ws_ yX5_penOf cX5_penOf 1 none) ({ frames := 9, cells := 1, slots := 8, locals := 203 } : Room)).room s m ([.ref a0] : List Value).toArray below meth c H locs k9 n9 (MQT below (ep_Qt G ep_cl res) ([.ref a0] : List Value).toArray s 1 8 (ep_A G)) g
set_option maxHeartbeats 4000000 in
theorem metTX5_penOf (l : Launch) (G : EG) (h : Hp) (a0 : Nat) {res : Thr} (hf : fX5_penOf h a0 = some (.inl res)) : MetT l yX5_penOf (ws_ yX5_penOf cX5_penOf 1 none) ({ frames := 9, cells := 1, slots := 8, locals := 203 } : Room) (ep_Pc G ep_cl h [.ref a0]) (ep_Qt G ep_cl res) 1 8 (ep_A G) := by
  refine MetT.ofW (cc := cX5_penOf) (maxL := 1) (ret := none) (by decide) rfl ?_
  intro p e s m args below meth c s₁ B hml hv
  obtain ⟨rfl, hR, hK, hZ⟩ := hv
  have hx := B.exec
  have hb := B.bytes
  have hr := B.returns
  have hlocks := B.notSynchronized
  have hts := atoms_spec (ws := (ws_ yX5_penOf cX5_penOf 1 none)) B.pre
  have hno : c.exceptionTable.toList = [] := by
    have h := B.noHandlers (hts _ List.mem_cons_self)
    simpa using h
  have hts : ∀ w ∈ lw_all, w.before _ s = true := fun w h => hts w (List.mem_cons_of_mem _ h)
  have hown : s.vm.findClass RX5 = some m.cls := findClass_of_methodNamed B.named
  have hw : ep_W G ep_cl h s s.heap [] := ⟨hR, va_S.rf⟩
  have hl := lv_entry ([.ref a0]) (n := 1) (Nat.le_of_ble_eq_true rfl)
  rw [lg_entry_eq]
  generalize (lg_sl ([.ref a0]) ++ List.replicate (1 - (lg_sl ([.ref a0])).length) Slot.unset).toArray = ls at hl ⊢
  have hl : lv_has ls 1 [(0, .ref a0)] := hl
  unfold fX5_penOf at hf
  have hf := (oi_c hf).2
  show wTX5_penOf p l e s m below meth c G h a0 res 0 0 s.heap ([]) (F0 m 0 ls [])
  refine lv_aload_n hx hb dX5_penOf_0 rfl (lv_at hl 0 rfl) ?_
  refine lv_aload_n hx hb dX5_penOf_1 rfl (lv_at hl 0 rfl) ?_
  obtain ⟨v1, ev1, hf⟩ := ob_s hf
  refine ep_get (C := RX5) (T := TX5) (N := 11) (ci := 5) hx hb hts in_X5 hown hK hw rfl 3 (by decide) q314 (gI_f ev1) dX5_penOf_2 ?_
  refine lv_iconst (v := iI 4) hx hb dX5_penOf_5 rfl ?_
  have hJ2 : wTX5_penOf p l e s m below meth c G h a0 res 0 0 s.heap ([]) (F0 m 14 ls [.int (if (iI 4) ≤ v1 then iI 0 else iI 1), .ref a0]) := by
    refine lv_iconst (v := iI 5) hx hb dX5_penOf_14 rfl ?_
    obtain ⟨zo4, eo4, hko4⟩ := orL_s hf
    rcases zo4 with xo4 | o4
    · have hf := orL_1 hko4 rfl
      exact ep_outT' hno hlocks (ep_runVT (As := [.int (if (iI 4) ≤ v1 then iI 0 else iI 1), .int (iI 5)]) (rest := []) ⟨hx, hb, hml, hown, hts⟩ (metTX5_must l G h a0 (if (iI 4) ≤ v1 then iI 0 else iI 1) (iI 5) eo4) (cwV 2 hts (lw_V q215 q217 qs2 q91 q218) rfl rfl rfl hdX5_must ⟨Nat.le_of_ble_eq_true rfl, Nat.le_of_ble_eq_true rfl⟩) (ep_preV hK hZ hw rfl (ckX5_must eo4)) rfl rfl hl.1 rfl (lv_room (Nat.le_of_ble_eq_true rfl)) dX5_penOf_15 ⟨Nat.le_of_ble_eq_true rfl, Nat.le_of_ble_eq_true rfl⟩) hw hf
    have hf := orL_2 hko4 rfl
    refine ep_callv0 (va_runV (As := [.int (if (iI 4) ≤ v1 then iI 0 else iI 1), .int (iI 5)]) (rest := []) ⟨hx, hb, hml, hown, hts⟩ (metX5_must l G h a0 (if (iI 4) ≤ v1 then iI 0 else iI 1) (iI 5) eo4) (cwV 2 hts (lw_V q215 q217 qs2 q91 q218) rfl rfl rfl hdX5_must ⟨Nat.le_of_ble_eq_true rfl, Nat.le_of_ble_eq_true rfl⟩) (ep_preV hK hZ hw rfl (ckX5_must eo4)) rfl rfl hl.1 rfl (lv_room (Nat.le_of_ble_eq_true rfl)) dX5_penOf_15 ⟨Nat.le_of_ble_eq_true rfl, Nat.le_of_ble_eq_true rfl⟩) hw (fun H locs hw => ?_)
    refine lv_aload_n hx hb dX5_penOf_18 rfl (lv_at hl 0 rfl) ?_
    obtain ⟨zo5, eo5, hko5⟩ := orL_s hf
    rcases zo5 with xo5 | o5
    · have hf := orL_1 hko5 rfl
      exact ep_outT' hno hlocks (ep_runVT (As := []) (rest := []) ⟨hx, hb, hml, hown, hts⟩ (metTX5_next l G o4 a0 eo5) (cwV 0 hts (lw_V q202 q204 qs0 q91 q205) rfl rfl rfl hdX5_next ⟨Nat.le_of_ble_eq_true rfl, Nat.le_of_ble_eq_true rfl⟩) (ep_preV hK hZ hw rfl (ckX5_next eo5)) rfl rfl hl.1 rfl (lv_room (Nat.le_of_ble_eq_true rfl)) dX5_penOf_19 ⟨Nat.le_of_ble_eq_true rfl, Nat.le_of_ble_eq_true rfl⟩) hw hf
    have hf := orL_2 hko5 rfl
    refine ep_callv0 (va_runV (As := []) (rest := []) ⟨hx, hb, hml, hown, hts⟩ (metX5_next l G o4 a0 eo5) (cwV 0 hts (lw_V q202 q204 qs0 q91 q205) rfl rfl rfl hdX5_next ⟨Nat.le_of_ble_eq_true rfl, Nat.le_of_ble_eq_true rfl⟩) (ep_preV hK hZ hw rfl (ckX5_next eo5)) rfl rfl hl.1 rfl (lv_room (Nat.le_of_ble_eq_true rfl)) dX5_penOf_19 ⟨Nat.le_of_ble_eq_true rfl, Nat.le_of_ble_eq_true rfl⟩) hw (fun H locs hw => ?_)
    refine lv_aload_n hx hb dX5_penOf_22 rfl (lv_at hl 0 rfl) ?_
    obtain ⟨r6, er6, hf⟩ := ob_s hf
    refine ep_get (C := RX5) (T := TX5) (N := 11) (ci := 5) hx hb hts in_X5 hown hK hw rfl 1 (by decide) q309 (gR_f er6) dX5_penOf_23 ?_
    obtain ⟨r7, er7, hf⟩ := ob_s hf
    refine ep_getN (C := RX1) (T := TX1) (N := 11) (ci := 1) hx hb hts in_X1 hown hK hw rfl 1 (by decide) q149 (gR_f er7) dX5_penOf_26 ?_
    refine lv_aload_n hx hb dX5_penOf_29 rfl (lv_at hl 0 rfl) ?_
    obtain ⟨v8, ev8, hf⟩ := ob_s hf
    refine ep_get (C := RX5) (T := TX5) (N := 11) (ci := 5) hx hb hts in_X5 hown hK hw rfl 3 (by decide) q314 (gI_f ev8) dX5_penOf_30 ?_
    refine lv_aload_n hx hb dX5_penOf_33 rfl (lv_at hl 0 rfl) ?_
    obtain ⟨zo9, eo9, hko9⟩ := orL_s hf
    rcases zo9 with xo9 | o9
    · have hf := orL_1 hko9 rfl
      exact ep_outT' hno hlocks (ep_runVT (As := []) (rest := [.int v8, .ref r7]) ⟨hx, hb, hml, hown, hts⟩ (metTX5_vowel l G o5 a0 eo9) (cwV 0 hts (lw_V q436 q438 qs12 q91 q439) rfl rfl rfl hdX5_vowel ⟨Nat.le_of_ble_eq_true rfl, Nat.le_of_ble_eq_true rfl⟩) (ep_preV hK hZ hw rfl (ckX5_vowel eo9)) rfl rfl hl.1 rfl (lv_room (Nat.le_of_ble_eq_true rfl)) dX5_penOf_34 ⟨Nat.le_of_ble_eq_true rfl, Nat.le_of_ble_eq_true rfl⟩) hw hf
    have hf := orL_2 hko9 rfl
    refine ep_calli0 (va_runV (As := []) (rest := [.int v8, .ref r7]) ⟨hx, hb, hml, hown, hts⟩ (metX5_vowel l G o5 a0 eo9) (cwV 0 hts (lw_V q436 q438 qs12 q91 q439) rfl rfl rfl hdX5_vowel ⟨Nat.le_of_ble_eq_true rfl, Nat.le_of_ble_eq_true rfl⟩) (ep_preV hK hZ hw rfl (ckX5_vowel eo9)) rfl rfl hl.1 rfl (lv_room (Nat.le_of_ble_eq_true rfl)) dX5_penOf_34 ⟨Nat.le_of_ble_eq_true rfl, Nat.le_of_ble_eq_true rfl⟩) hw (fun H locs hw => ?_)
    obtain ⟨h10, eh10, hf⟩ := ob_s hf
    refine ep_iast hx hb hK hw eh10 dX5_penOf_37 (fun H locs hw => ?_)
    refine lv_aload_n hx hb dX5_penOf_38 rfl (lv_at hl 0 rfl) ?_
    obtain ⟨r11, er11, hf⟩ := ob_s hf
    refine ep_get (C := RX5) (T := TX5) (N := 11) (ci := 5) hx hb hts in_X5 hown hK hw rfl 1 (by decide) q309 (gR_f er11) dX5_penOf_39 ?_
    obtain ⟨r12, er12, hf⟩ := ob_s hf
    refine ep_getN (C := RX1) (T := TX1) (N := 11) (ci := 1) hx hb hts in_X1 hown hK hw rfl 0 (by decide) q147 (gR_f er12) dX5_penOf_42 ?_
    refine lv_aload_n hx hb dX5_penOf_45 rfl (lv_at hl 0 rfl) ?_
    obtain ⟨v13, ev13, hf⟩ := ob_s hf
    refine ep_get (C := RX5) (T := TX5) (N := 11) (ci := 5) hx hb hts in_X5 hown hK hw rfl 3 (by decide) q314 (gI_f ev13) dX5_penOf_46 ?_
    refine lv_aload_n hx hb dX5_penOf_49 rfl (lv_at hl 0 rfl) ?_
    refine lv_iconst (v := iI 1) hx hb dX5_penOf_50 rfl ?_
    refine lv_bipush (v := iI 9) hx hb dX5_penOf_51 (by decide) ?_
    obtain ⟨zo14, eo14, hko14⟩ := orL_s hf
    rcases zo14 with xo14 | o14
    · have hf := orL_1 hko14 rfl
      exact ep_outT' hno hlocks (ep_runVT (As := [.int (iI 1), .int (iI 9)]) (rest := [.int v13, .ref r12]) ⟨hx, hb, hml, hown, hts⟩ (metTX5_number l G h10 a0 (iI 1) (iI 9) eo14) (cwV 2 hts (lw_V q418 q420 qs9 q91 q421) rfl rfl rfl hdX5_number ⟨Nat.le_of_ble_eq_true rfl, Nat.le_of_ble_eq_true rfl⟩) (ep_preV hK hZ hw rfl (ckX5_number eo14)) rfl rfl hl.1 rfl (lv_room (Nat.le_of_ble_eq_true rfl)) dX5_penOf_53 ⟨Nat.le_of_ble_eq_true rfl, Nat.le_of_ble_eq_true rfl⟩) hw hf
    have hf := orL_2 hko14 rfl
    refine ep_calli0 (va_runV (As := [.int (iI 1), .int (iI 9)]) (rest := [.int v13, .ref r12]) ⟨hx, hb, hml, hown, hts⟩ (metX5_number l G h10 a0 (iI 1) (iI 9) eo14) (cwV 2 hts (lw_V q418 q420 qs9 q91 q421) rfl rfl rfl hdX5_number ⟨Nat.le_of_ble_eq_true rfl, Nat.le_of_ble_eq_true rfl⟩) (ep_preV hK hZ hw rfl (ckX5_number eo14)) rfl rfl hl.1 rfl (lv_room (Nat.le_of_ble_eq_true rfl)) dX5_penOf_53 ⟨Nat.le_of_ble_eq_true rfl, Nat.le_of_ble_eq_true rfl⟩) hw (fun H locs hw => ?_)
    obtain ⟨h15, eh15, hf⟩ := ob_s hf
    refine ep_iast hx hb hK hw eh15 dX5_penOf_56 (fun H locs hw => ?_)
    refine lv_aload_n hx hb dX5_penOf_57 rfl (lv_at hl 0 rfl) ?_
    refine lv_dup hx hb dX5_penOf_58 rfl ?_
    obtain ⟨v16, ev16, hf⟩ := ob_s hf
    refine ep_get (C := RX5) (T := TX5) (N := 11) (ci := 5) hx hb hts in_X5 hown hK hw rfl 3 (by decide) q314 (gI_f ev16) dX5_penOf_59 ?_
    refine lv_iconst (v := iI 1) hx hb dX5_penOf_62 rfl ?_
    refine lv_iadd hx hb dX5_penOf_63 ?_
    obtain ⟨h17, eh17, hf⟩ := ob_s hf
    refine ep_put (C := RX5) (T := TX5) (N := 11) (ci := 5) hx hb hts in_X5 tyX5 tyX5_ok nmX5 hown hK hw rfl (by decide) 3 (by decide) q314 rfl rfl rfl eh17 dX5_penOf_64 (fun H locs hw => ?_)
    cases hf
  refine lv_icmp_ge (tgt := 13) hx hb dX5_penOf_6 (by decide) (fun c3 => ?_) (fun c3 => ?_)
  · refine lv_iconst (v := iI 0) hx hb dX5_penOf_13 rfl ?_
    rw [if_pos c3] at hJ2
    exact hJ2
  · refine lv_iconst (v := iI 1) hx hb dX5_penOf_9 rfl ?_
    refine lv_goto (tgt := 14) hx hb dX5_penOf_10 (by decide) ?_
    rw [if_neg c3] at hJ2
    exact hJ2
theorem hdX7_init : yX7_init.cls = RX7 ∧ yX7_init.cls ≠ "java/lang/invoke/MethodHandle" ∧ yX7_init.cls ≠ "java/lang/invoke/VarHandle" ∧ (parseMethodDescriptor yX7_init.desc).map (fun d => d.parameters.length) = some 0 := by decide +kernel
theorem ckX7_init {h : Hp} {a0 : Nat} {res : Hp} (hf : fX7_init h a0 = some res) : ep_cls h a0 = some 7 := by
  unfold fX7_init at hf
  exact (oi_c hf).1
abbrev wX7_init (p : Program) (l : Launch) (e : Env) (s : State) (m : MethodId) (below : List Frame) (meth : Method) (c : Code) (G : EG) (h : Hp) (a0 : Nat) (res : Hp) (k9 n9 : Nat) (H : Heap) (locs : List Loc) (g : JFrame) : Prop := W p l e (headSpec (ws_ yX7_init cX7_init 1 none) ({ frames := 1, cells := 1, slots := 5, locals := 20 } : Room)).room s m ([.ref a0] : List Value).toArray below meth c H locs k9 n9 (MQ below (ep_Qv G ep_cl res) ([.ref a0] : List Value).toArray s 1 5 (ep_A G)) g
set_option maxHeartbeats 4000000 in
theorem metX7_init (l : Launch) (G : EG) (h : Hp) (a0 : Nat) {res : Hp} (hf : fX7_init h a0 = some res) : Met l yX7_init (ws_ yX7_init cX7_init 1 none) ({ frames := 1, cells := 1, slots := 5, locals := 20 } : Room) (ep_Pc G ep_cl h [.ref a0]) (ep_Qv G ep_cl res) 1 5 (ep_A G) := by
  refine Met.ofW (cc := cX7_init) (maxL := 1) (ret := none) (by decide) rfl ?_
  intro p e s m args below meth c s₁ B hml hv
  obtain ⟨rfl, hR, hK, hZ⟩ := hv
  have hx := B.exec
  have hb := B.bytes
  have hr := B.returns
  have hlocks := B.notSynchronized
  have hts := atoms_spec (ws := (ws_ yX7_init cX7_init 1 none)) B.pre
  have hts : ∀ w ∈ lw_all, w.before _ s = true := fun w h => hts w (List.mem_cons_of_mem _ h)
  have hown : s.vm.findClass RX7 = some m.cls := findClass_of_methodNamed B.named
  have hin : meth.name = "<init>" := (name_of_methodNamed B.named B.method).1
  have hw : ep_W G ep_cl h s s.heap [] := ⟨hR, va_S.rf⟩
  have hl := lv_entry ([.ref a0]) (n := 1) (Nat.le_of_ble_eq_true rfl)
  rw [lg_entry_eq]
  generalize (lg_sl ([.ref a0]) ++ List.replicate (1 - (lg_sl ([.ref a0])).length) Slot.unset).toArray = ls at hl ⊢
  have hl : lv_has ls 1 [(0, .ref a0)] := hl
  unfold fX7_init at hf
  have hf := (oi_c hf).2
  show wX7_init p l e s m below meth c G h a0 res 0 0 s.heap ([]) (F0 m 0 ls [])
  refine lv_aload_n hx hb dX7_init_0 rfl (lv_at hl 0 rfl) ?_
  refine W.objInit hx hb hown (hts _ q506) (hts _ q135) (hts _ q136) rfl (by rw [hml]; exact hl.1) rfl dX7_init_1 (Nat.le_of_ble_eq_true rfl) (Nat.le_of_ble_eq_true rfl) ?_
  refine W.eq (g2 := F0 m 4 ls []) rfl ?_
  refine lv_aload_n hx hb dX7_init_4 rfl (lv_at hl 0 rfl) ?_
  refine lv_iconst (v := iI 5) hx hb dX7_init_5 rfl ?_
  obtain ⟨h1, eh1, hf⟩ := ob_s hf
  refine ep_newaH 1 5 hx hb hts (atype := .byte) q198 rfl (by decide) rfl (fun _ _ => rfl) hK hw (by decide) (Nat.le_of_ble_eq_true rfl) (Nat.le_of_ble_eq_true rfl) eh1 dX7_init_6 (fun H locs hw => ?_)
  obtain ⟨h2, eh2, hf⟩ := ob_s hf
  refine ep_putF (C := RX7) (T := TX7) (N := 4) (ci := 7) hx hb hts in_X7 tyX7 tyX7_ok nmX7 hown hK hw rfl (by decide) 0 (by decide) q507 rfl hin rfl rfl rfl eh2 dX7_init_8 (fun H locs hw => ?_)
  exact ep_retvW hx hb hr hlocks hw hf dX7_init_11
theorem hdX5_orderOf : yX5_orderOf.cls = RX5 ∧ yX5_orderOf.cls ≠ "java/lang/invoke/MethodHandle" ∧ yX5_orderOf.cls ≠ "java/lang/invoke/VarHandle" ∧ (parseMethodDescriptor yX5_orderOf.desc).map (fun d => d.parameters.length) = some 0 := by decide +kernel
theorem ckX5_orderOf {h : Hp} {a0 : Nat} {res : Thr ⊕ (Hp)} (hf : fX5_orderOf h a0 = some res) : ep_cls h a0 = some 5 := by
  unfold fX5_orderOf at hf
  exact (oi_c hf).1
abbrev wX5_orderOf (p : Program) (l : Launch) (e : Env) (s : State) (m : MethodId) (below : List Frame) (meth : Method) (c : Code) (G : EG) (h : Hp) (a0 : Nat) (res : Hp) (k9 n9 : Nat) (H : Heap) (locs : List Loc) (g : JFrame) : Prop := W p l e (headSpec (ws_ yX5_orderOf cX5_orderOf 2 none) ({ frames := 9, cells := 2, slots := 9, locals := 203 } : Room)).room s m ([.ref a0] : List Value).toArray below meth c H locs k9 n9 (MQ below (ep_Qv G ep_cl res) ([.ref a0] : List Value).toArray s 2 9 (ep_A G)) g
set_option maxHeartbeats 4000000 in
theorem metX5_orderOf (l : Launch) (G : EG) (h : Hp) (a0 : Nat) {res : Hp} (hf : fX5_orderOf h a0 = some (.inr res)) : Met l yX5_orderOf (ws_ yX5_orderOf cX5_orderOf 2 none) ({ frames := 9, cells := 2, slots := 9, locals := 203 } : Room) (ep_Pc G ep_cl h [.ref a0]) (ep_Qv G ep_cl res) 2 9 (ep_A G) := by
  refine Met.ofW (cc := cX5_orderOf) (maxL := 2) (ret := none) (by decide) rfl ?_
  intro p e s m args below meth c s₁ B hml hv
  obtain ⟨rfl, hR, hK, hZ⟩ := hv
  have hx := B.exec
  have hb := B.bytes
  have hr := B.returns
  have hlocks := B.notSynchronized
  have hts := atoms_spec (ws := (ws_ yX5_orderOf cX5_orderOf 2 none)) B.pre
  have hts : ∀ w ∈ lw_all, w.before _ s = true := fun w h => hts w (List.mem_cons_of_mem _ h)
  have hown : s.vm.findClass RX5 = some m.cls := findClass_of_methodNamed B.named
  have hw : ep_W G ep_cl h s s.heap [] := ⟨hR, va_S.rf⟩
  have hl := lv_entry ([.ref a0]) (n := 2) (Nat.le_of_ble_eq_true rfl)
  rw [lg_entry_eq]
  generalize (lg_sl ([.ref a0]) ++ List.replicate (2 - (lg_sl ([.ref a0])).length) Slot.unset).toArray = ls at hl ⊢
  have hl : lv_has ls 2 [(0, .ref a0)] := hl
  unfold fX5_orderOf at hf
  have hf := (oi_c hf).2
  show wX5_orderOf p l e s m below meth c G h a0 res 0 0 s.heap ([]) (F0 m 0 ls [])
  refine lv_aload_n hx hb dX5_orderOf_0 rfl (lv_at hl 0 rfl) ?_
  refine lv_aload_n hx hb dX5_orderOf_1 rfl (lv_at hl 0 rfl) ?_
  obtain ⟨v1, ev1, hf⟩ := ob_s hf
  refine ep_get (C := RX5) (T := TX5) (N := 11) (ci := 5) hx hb hts in_X5 hown hK hw rfl 4 (by decide) q316 (gI_f ev1) dX5_orderOf_2 ?_
  refine lv_iconst (v := iI 4) hx hb dX5_orderOf_5 rfl ?_
  have hJ2 : wX5_orderOf p l e s m below meth c G h a0 res 0 0 s.heap ([]) (F0 m 14 ls [.int (if (iI 4) ≤ v1 then iI 0 else iI 1), .ref a0]) := by
    refine lv_iconst (v := iI 5) hx hb dX5_orderOf_14 rfl ?_
    obtain ⟨zo4, eo4, hko4⟩ := orL_s hf
    rcases zo4 with xo4 | o4
    · have hf := orL_1 hko4 rfl
      cases hf
    have hf := orL_2 hko4 rfl
    refine ep_callv0 (va_runV (As := [.int (if (iI 4) ≤ v1 then iI 0 else iI 1), .int (iI 5)]) (rest := []) ⟨hx, hb, hml, hown, hts⟩ (metX5_must l G h a0 (if (iI 4) ≤ v1 then iI 0 else iI 1) (iI 5) eo4) (cwV 2 hts (lw_V q215 q217 qs2 q91 q218) rfl rfl rfl hdX5_must ⟨Nat.le_of_ble_eq_true rfl, Nat.le_of_ble_eq_true rfl⟩) (ep_preV hK hZ hw rfl (ckX5_must eo4)) rfl rfl hl.1 rfl (lv_room (Nat.le_of_ble_eq_true rfl)) dX5_orderOf_15 ⟨Nat.le_of_ble_eq_true rfl, Nat.le_of_ble_eq_true rfl⟩) hw (fun H locs hw => ?_)
    refine lv_aload_n hx hb dX5_orderOf_18 rfl (lv_at hl 0 rfl) ?_
    obtain ⟨zo5, eo5, hko5⟩ := orL_s hf
    rcases zo5 with xo5 | o5
    · have hf := orL_1 hko5 rfl
      cases hf
    have hf := orL_2 hko5 rfl
    refine ep_callv0 (va_runV (As := []) (rest := []) ⟨hx, hb, hml, hown, hts⟩ (metX5_next l G o4 a0 eo5) (cwV 0 hts (lw_V q202 q204 qs0 q91 q205) rfl rfl rfl hdX5_next ⟨Nat.le_of_ble_eq_true rfl, Nat.le_of_ble_eq_true rfl⟩) (ep_preV hK hZ hw rfl (ckX5_next eo5)) rfl rfl hl.1 rfl (lv_room (Nat.le_of_ble_eq_true rfl)) dX5_orderOf_19 ⟨Nat.le_of_ble_eq_true rfl, Nat.le_of_ble_eq_true rfl⟩) hw (fun H locs hw => ?_)
    obtain ⟨h6, eh6, hf⟩ := ob_s hf
    refine ep_newH (C := RX7) (T := TX7) (N := 4) (ci := 7) hx hb hts in_X7 tyX7 tyX7_ok hown q200 q502 q102 hK hw rfl (by decide) (Nat.le_of_ble_eq_true rfl) (Nat.le_of_ble_eq_true rfl) eh6 dX5_orderOf_22 (fun H locs hw => ?_)
    refine lv_dup hx hb dX5_orderOf_25 rfl ?_
    obtain ⟨o7, eo7, hf⟩ := ob_s hf
    refine ep_callv (va_runIN (As := []) (rest := [.ref o5.1]) ⟨hx, hb, hml, hown, hts⟩ (metX7_init l G h6 o5.1 eo7) ⟨va_cnB 0 hts (lw_meth q505) rfl rfl rfl (hK.nest q503 rfl) (hts _ q102) hdX7_init.2 ⟨Nat.le_of_ble_eq_true rfl, Nat.le_of_ble_eq_true rfl⟩, rfl, hts _ q504⟩ (ep_preS hK hZ hw) rfl rfl hl.1 rfl (lv_room (Nat.le_of_ble_eq_true rfl)) dX5_orderOf_26 ⟨Nat.le_of_ble_eq_true rfl, Nat.le_of_ble_eq_true rfl⟩) hw (fun H locs hw => ?_)
    refine lv_astore_n (lv' := [(1, .ref o5.1), (0, .ref a0)]) hx hb dX5_orderOf_29 rfl hl (by decide) rfl (fun ls hl => ?_)
    refine lv_aload_n hx hb dX5_orderOf_30 rfl (lv_at hl 0 rfl) ?_
    refine lv_aload_n hx hb dX5_orderOf_31 rfl (lv_at hl 1 rfl) ?_
    refine lv_aload_n hx hb dX5_orderOf_32 rfl (lv_at hl 0 rfl) ?_
    obtain ⟨r8, er8, hf⟩ := ob_s hf
    refine ep_getN (C := RX7) (T := TX7) (N := 4) (ci := 7) hx hb hts in_X7 hown hK hw rfl 0 (by decide) q508 (gR_f er8) dX5_orderOf_33 ?_
    obtain ⟨zo9, eo9, hko9⟩ := orL_s hf
    rcases zo9 with xo9 | o9
    · have hf := orL_1 hko9 rfl
      cases hf
    have hf := orL_2 hko9 rfl
    refine ep_calli0 (va_runV (As := [.ref r8]) (rest := [.ref o5.1]) ⟨hx, hb, hml, hown, hts⟩ (metX5_wordInto l G o7 a0 r8 eo9) (cwV 1 hts (lw_V q413 q415 qs8 q91 q416) rfl rfl rfl hdX5_wordInto ⟨Nat.le_of_ble_eq_true rfl, Nat.le_of_ble_eq_true rfl⟩) (ep_preV hK hZ hw rfl (ckX5_wordInto eo9)) rfl rfl hl.1 rfl (lv_room (Nat.le_of_ble_eq_true rfl)) dX5_orderOf_36 ⟨Nat.le_of_ble_eq_true rfl, Nat.le_of_ble_eq_true rfl⟩) hw (fun H locs hw => ?_)
    obtain ⟨h10, eh10, hf⟩ := ob_s hf
    refine ep_putN (C := RX7) (T := TX7) (N := 4) (ci := 7) hx hb hts in_X7 tyX7 tyX7_ok nmX7 hown hK hw rfl (by decide) 1 (by decide) q510 rfl rfl rfl eh10 dX5_orderOf_39 (fun H locs hw => ?_)
    refine lv_aload_n hx hb dX5_orderOf_42 rfl (lv_at hl 0 rfl) ?_
    refine lv_aload_n hx hb dX5_orderOf_43 rfl (lv_at hl 1 rfl) ?_
    refine lv_iconst (v := iI 1) hx hb dX5_orderOf_44 rfl ?_
    refine lv_bipush (v := iI 9) hx hb dX5_orderOf_45 (by decide) ?_
    obtain ⟨zo11, eo11, hko11⟩ := orL_s hf
    rcases zo11 with xo11 | o11
    · have hf := orL_1 hko11 rfl
      cases hf
    have hf := orL_2 hko11 rfl
    refine ep_calli0 (va_runV (As := [.int (iI 1), .int (iI 9)]) (rest := [.ref o5.1]) ⟨hx, hb, hml, hown, hts⟩ (metX5_number l G h10 a0 (iI 1) (iI 9) eo11) (cwV 2 hts (lw_V q418 q420 qs9 q91 q421) rfl rfl rfl hdX5_number ⟨Nat.le_of_ble_eq_true rfl, Nat.le_of_ble_eq_true rfl⟩) (ep_preV hK hZ hw rfl (ckX5_number eo11)) rfl rfl hl.1 rfl (lv_room (Nat.le_of_ble_eq_true rfl)) dX5_orderOf_47 ⟨Nat.le_of_ble_eq_true rfl, Nat.le_of_ble_eq_true rfl⟩) hw (fun H locs hw => ?_)
    obtain ⟨h12, eh12, hf⟩ := ob_s hf
    refine ep_putN (C := RX7) (T := TX7) (N := 4) (ci := 7) hx hb hts in_X7 tyX7 tyX7_ok nmX7 hown hK hw rfl (by decide) 2 (by decide) q512 rfl rfl rfl eh12 dX5_orderOf_50 (fun H locs hw => ?_)
    refine lv_aload_n hx hb dX5_orderOf_53 rfl (lv_at hl 0 rfl) ?_
    refine lv_aload_n hx hb dX5_orderOf_54 rfl (lv_at hl 1 rfl) ?_
    refine lv_iconst (v := iI 0) hx hb dX5_orderOf_55 rfl ?_
    refine lv_bipush (v := iI 9) hx hb dX5_orderOf_56 (by decide) ?_
    obtain ⟨zo13, eo13, hko13⟩ := orL_s hf
    rcases zo13 with xo13 | o13
    · have hf := orL_1 hko13 rfl
      cases hf
    have hf := orL_2 hko13 rfl
    refine ep_calli0 (va_runV (As := [.int (iI 0), .int (iI 9)]) (rest := [.ref o5.1]) ⟨hx, hb, hml, hown, hts⟩ (metX5_number l G h12 a0 (iI 0) (iI 9) eo13) (cwV 2 hts (lw_V q418 q420 qs9 q91 q421) rfl rfl rfl hdX5_number ⟨Nat.le_of_ble_eq_true rfl, Nat.le_of_ble_eq_true rfl⟩) (ep_preV hK hZ hw rfl (ckX5_number eo13)) rfl rfl hl.1 rfl (lv_room (Nat.le_of_ble_eq_true rfl)) dX5_orderOf_58 ⟨Nat.le_of_ble_eq_true rfl, Nat.le_of_ble_eq_true rfl⟩) hw (fun H locs hw => ?_)
    obtain ⟨h14, eh14, hf⟩ := ob_s hf
    refine ep_putN (C := RX7) (T := TX7) (N := 4) (ci := 7) hx hb hts in_X7 tyX7 tyX7_ok nmX7 hown hK hw rfl (by decide) 3 (by decide) q514 rfl rfl rfl eh14 dX5_orderOf_61 (fun H locs hw => ?_)
    refine lv_aload_n hx hb dX5_orderOf_64 rfl (lv_at hl 1 rfl) ?_
    obtain ⟨r15, er15, hf⟩ := ob_s hf
    refine ep_get (C := RX5) (T := TX5) (N := 11) (ci := 5) hx hb hts in_X5 hown hK hw rfl 2 (by decide) q311 (gR_f er15) dX5_orderOf_65 ?_
    refine lv_aload_n hx hb dX5_orderOf_68 rfl (lv_at hl 1 rfl) ?_
    obtain ⟨v16, ev16, hf⟩ := ob_s hf
    refine ep_get (C := RX5) (T := TX5) (N := 11) (ci := 5) hx hb hts in_X5 hown hK hw rfl 4 (by decide) q316 (gI_f ev16) dX5_orderOf_69 ?_
    refine lv_aload_n hx hb dX5_orderOf_72 rfl (lv_at hl 0 rfl) ?_
    obtain ⟨h17, eh17, hf⟩ := ob_s hf
    refine ep_aast 6 hx hb (by decide) rfl (ci := 7) rfl hK hw eh17 dX5_orderOf_73 (fun H locs hw => ?_)
    refine lv_aload_n hx hb dX5_orderOf_74 rfl (lv_at hl 1 rfl) ?_
    refine lv_dup hx hb dX5_orderOf_75 rfl ?_
    obtain ⟨v18, ev18, hf⟩ := ob_s hf
    refine ep_get (C := RX5) (T := TX5) (N := 11) (ci := 5) hx hb hts in_X5 hown hK hw rfl 4 (by decide) q316 (gI_f ev18) dX5_orderOf_76 ?_
    refine lv_iconst (v := iI 1) hx hb dX5_orderOf_79 rfl ?_
    refine lv_iadd hx hb dX5_orderOf_80 ?_
    obtain ⟨h19, eh19, hf⟩ := ob_s hf
    refine ep_put (C := RX5) (T := TX5) (N := 11) (ci := 5) hx hb hts in_X5 tyX5 tyX5_ok nmX5 hown hK hw rfl (by decide) 4 (by decide) q316 rfl rfl rfl eh19 dX5_orderOf_81 (fun H locs hw => ?_)
    exact ep_retvW hx hb hr hlocks hw (sm_r hf) dX5_orderOf_84
  refine lv_icmp_ge (tgt := 13) hx hb dX5_orderOf_6 (by decide) (fun c3 => ?_) (fun c3 => ?_)
  · refine lv_iconst (v := iI 0) hx hb dX5_orderOf_13 rfl ?_
    rw [if_pos c3] at hJ2
    exact hJ2
  · refine lv_iconst (v := iI 1) hx hb dX5_orderOf_9 rfl ?_
    refine lv_goto (tgt := 14) hx hb dX5_orderOf_10 (by decide) ?_
    rw [if_neg c3] at hJ2
    exact hJ2
abbrev wTX5_orderOf (p : Program) (l : Launch) (e : Env) (s : State) (m : MethodId) (below : List Frame) (meth : Method) (c : Code) (G : EG) (h : Hp) (a0 : Nat) (res : Thr) (k9 n9 : Nat) (H : Heap) (locs : List Loc) (g : JFrame) : Prop := W p l e (headSpec (ws_ yX5_orderOf cX5_orderOf 2 none) ({ frames := 9, cells := 3, slots := 17, locals := 203 } : Room)).room s m ([.ref a0] : List Value).toArray below meth c H locs k9 n9 (MQT below (ep_Qt G ep_cl res) ([.ref a0] : List Value).toArray s 3 17 (ep_A G)) g
set_option maxHeartbeats 4000000 in
theorem metTX5_orderOf (l : Launch) (G : EG) (h : Hp) (a0 : Nat) {res : Thr} (hf : fX5_orderOf h a0 = some (.inl res)) : MetT l yX5_orderOf (ws_ yX5_orderOf cX5_orderOf 2 none) ({ frames := 9, cells := 3, slots := 17, locals := 203 } : Room) (ep_Pc G ep_cl h [.ref a0]) (ep_Qt G ep_cl res) 3 17 (ep_A G) := by
  refine MetT.ofW (cc := cX5_orderOf) (maxL := 2) (ret := none) (by decide) rfl ?_
  intro p e s m args below meth c s₁ B hml hv
  obtain ⟨rfl, hR, hK, hZ⟩ := hv
  have hx := B.exec
  have hb := B.bytes
  have hr := B.returns
  have hlocks := B.notSynchronized
  have hts := atoms_spec (ws := (ws_ yX5_orderOf cX5_orderOf 2 none)) B.pre
  have hno : c.exceptionTable.toList = [] := by
    have h := B.noHandlers (hts _ List.mem_cons_self)
    simpa using h
  have hts : ∀ w ∈ lw_all, w.before _ s = true := fun w h => hts w (List.mem_cons_of_mem _ h)
  have hown : s.vm.findClass RX5 = some m.cls := findClass_of_methodNamed B.named
  have hw : ep_W G ep_cl h s s.heap [] := ⟨hR, va_S.rf⟩
  have hl := lv_entry ([.ref a0]) (n := 2) (Nat.le_of_ble_eq_true rfl)
  rw [lg_entry_eq]
  generalize (lg_sl ([.ref a0]) ++ List.replicate (2 - (lg_sl ([.ref a0])).length) Slot.unset).toArray = ls at hl ⊢
  have hl : lv_has ls 2 [(0, .ref a0)] := hl
  unfold fX5_orderOf at hf
  have hf := (oi_c hf).2
  show wTX5_orderOf p l e s m below meth c G h a0 res 0 0 s.heap ([]) (F0 m 0 ls [])
  refine lv_aload_n hx hb dX5_orderOf_0 rfl (lv_at hl 0 rfl) ?_
  refine lv_aload_n hx hb dX5_orderOf_1 rfl (lv_at hl 0 rfl) ?_
  obtain ⟨v1, ev1, hf⟩ := ob_s hf
  refine ep_get (C := RX5) (T := TX5) (N := 11) (ci := 5) hx hb hts in_X5 hown hK hw rfl 4 (by decide) q316 (gI_f ev1) dX5_orderOf_2 ?_
  refine lv_iconst (v := iI 4) hx hb dX5_orderOf_5 rfl ?_
  have hJ2 : wTX5_orderOf p l e s m below meth c G h a0 res 0 0 s.heap ([]) (F0 m 14 ls [.int (if (iI 4) ≤ v1 then iI 0 else iI 1), .ref a0]) := by
    refine lv_iconst (v := iI 5) hx hb dX5_orderOf_14 rfl ?_
    obtain ⟨zo4, eo4, hko4⟩ := orL_s hf
    rcases zo4 with xo4 | o4
    · have hf := orL_1 hko4 rfl
      refine W.widen (k := 2) (n := 9) (Nat.le_of_ble_eq_true rfl) (Nat.le_of_ble_eq_true rfl) ?_
      exact ep_outT' hno hlocks (ep_runVT (As := [.int (if (iI 4) ≤ v1 then iI 0 else iI 1), .int (iI 5)]) (rest := []) ⟨hx, hb, hml, hown, hts⟩ (metTX5_must l G h a0 (if (iI 4) ≤ v1 then iI 0 else iI 1) (iI 5) eo4) (cwV 2 hts (lw_V q215 q217 qs2 q91 q218) rfl rfl rfl hdX5_must ⟨Nat.le_of_ble_eq_true rfl, Nat.le_of_ble_eq_true rfl⟩) (ep_preV hK hZ hw rfl (ckX5_must eo4)) rfl rfl hl.1 rfl (lv_room (Nat.le_of_ble_eq_true rfl)) dX5_orderOf_15 ⟨Nat.le_of_ble_eq_true rfl, Nat.le_of_ble_eq_true rfl⟩) hw hf
    have hf := orL_2 hko4 rfl
    refine ep_callv0 (va_runV (As := [.int (if (iI 4) ≤ v1 then iI 0 else iI 1), .int (iI 5)]) (rest := []) ⟨hx, hb, hml, hown, hts⟩ (metX5_must l G h a0 (if (iI 4) ≤ v1 then iI 0 else iI 1) (iI 5) eo4) (cwV 2 hts (lw_V q215 q217 qs2 q91 q218) rfl rfl rfl hdX5_must ⟨Nat.le_of_ble_eq_true rfl, Nat.le_of_ble_eq_true rfl⟩) (ep_preV hK hZ hw rfl (ckX5_must eo4)) rfl rfl hl.1 rfl (lv_room (Nat.le_of_ble_eq_true rfl)) dX5_orderOf_15 ⟨Nat.le_of_ble_eq_true rfl, Nat.le_of_ble_eq_true rfl⟩) hw (fun H locs hw => ?_)
    refine lv_aload_n hx hb dX5_orderOf_18 rfl (lv_at hl 0 rfl) ?_
    obtain ⟨zo5, eo5, hko5⟩ := orL_s hf
    rcases zo5 with xo5 | o5
    · have hf := orL_1 hko5 rfl
      refine W.widen (k := 2) (n := 9) (Nat.le_of_ble_eq_true rfl) (Nat.le_of_ble_eq_true rfl) ?_
      exact ep_outT' hno hlocks (ep_runVT (As := []) (rest := []) ⟨hx, hb, hml, hown, hts⟩ (metTX5_next l G o4 a0 eo5) (cwV 0 hts (lw_V q202 q204 qs0 q91 q205) rfl rfl rfl hdX5_next ⟨Nat.le_of_ble_eq_true rfl, Nat.le_of_ble_eq_true rfl⟩) (ep_preV hK hZ hw rfl (ckX5_next eo5)) rfl rfl hl.1 rfl (lv_room (Nat.le_of_ble_eq_true rfl)) dX5_orderOf_19 ⟨Nat.le_of_ble_eq_true rfl, Nat.le_of_ble_eq_true rfl⟩) hw hf
    have hf := orL_2 hko5 rfl
    refine ep_callv0 (va_runV (As := []) (rest := []) ⟨hx, hb, hml, hown, hts⟩ (metX5_next l G o4 a0 eo5) (cwV 0 hts (lw_V q202 q204 qs0 q91 q205) rfl rfl rfl hdX5_next ⟨Nat.le_of_ble_eq_true rfl, Nat.le_of_ble_eq_true rfl⟩) (ep_preV hK hZ hw rfl (ckX5_next eo5)) rfl rfl hl.1 rfl (lv_room (Nat.le_of_ble_eq_true rfl)) dX5_orderOf_19 ⟨Nat.le_of_ble_eq_true rfl, Nat.le_of_ble_eq_true rfl⟩) hw (fun H locs hw => ?_)
    obtain ⟨h6, eh6, hf⟩ := ob_s hf
    refine ep_newH (C := RX7) (T := TX7) (N := 4) (ci := 7) hx hb hts in_X7 tyX7 tyX7_ok hown q200 q502 q102 hK hw rfl (by decide) (Nat.le_of_ble_eq_true rfl) (Nat.le_of_ble_eq_true rfl) eh6 dX5_orderOf_22 (fun H locs hw => ?_)
    refine lv_dup hx hb dX5_orderOf_25 rfl ?_
    obtain ⟨o7, eo7, hf⟩ := ob_s hf
    refine ep_callv (va_runIN (As := []) (rest := [.ref o5.1]) ⟨hx, hb, hml, hown, hts⟩ (metX7_init l G h6 o5.1 eo7) ⟨va_cnB 0 hts (lw_meth q505) rfl rfl rfl (hK.nest q503 rfl) (hts _ q102) hdX7_init.2 ⟨Nat.le_of_ble_eq_true rfl, Nat.le_of_ble_eq_true rfl⟩, rfl, hts _ q504⟩ (ep_preS hK hZ hw) rfl rfl hl.1 rfl (lv_room (Nat.le_of_ble_eq_true rfl)) dX5_orderOf_26 ⟨Nat.le_of_ble_eq_true rfl, Nat.le_of_ble_eq_true rfl⟩) hw (fun H locs hw => ?_)
    refine lv_astore_n (lv' := [(1, .ref o5.1), (0, .ref a0)]) hx hb dX5_orderOf_29 rfl hl (by decide) rfl (fun ls hl => ?_)
    refine lv_aload_n hx hb dX5_orderOf_30 rfl (lv_at hl 0 rfl) ?_
    refine lv_aload_n hx hb dX5_orderOf_31 rfl (lv_at hl 1 rfl) ?_
    refine lv_aload_n hx hb dX5_orderOf_32 rfl (lv_at hl 0 rfl) ?_
    obtain ⟨r8, er8, hf⟩ := ob_s hf
    refine ep_getN (C := RX7) (T := TX7) (N := 4) (ci := 7) hx hb hts in_X7 hown hK hw rfl 0 (by decide) q508 (gR_f er8) dX5_orderOf_33 ?_
    obtain ⟨zo9, eo9, hko9⟩ := orL_s hf
    rcases zo9 with xo9 | o9
    · have hf := orL_1 hko9 rfl
      exact ep_outT' hno hlocks (ep_runVT (As := [.ref r8]) (rest := [.ref o5.1]) ⟨hx, hb, hml, hown, hts⟩ (metTX5_wordInto l G o7 a0 r8 eo9) (cwV 1 hts (lw_V q413 q415 qs8 q91 q416) rfl rfl rfl hdX5_wordInto ⟨Nat.le_of_ble_eq_true rfl, Nat.le_of_ble_eq_true rfl⟩) (ep_preV hK hZ hw rfl (ckX5_wordInto eo9)) rfl rfl hl.1 rfl (lv_room (Nat.le_of_ble_eq_true rfl)) dX5_orderOf_36 ⟨Nat.le_of_ble_eq_true rfl, Nat.le_of_ble_eq_true rfl⟩) hw hf
    have hf := orL_2 hko9 rfl
    refine ep_calli0 (va_runV (As := [.ref r8]) (rest := [.ref o5.1]) ⟨hx, hb, hml, hown, hts⟩ (metX5_wordInto l G o7 a0 r8 eo9) (cwV 1 hts (lw_V q413 q415 qs8 q91 q416) rfl rfl rfl hdX5_wordInto ⟨Nat.le_of_ble_eq_true rfl, Nat.le_of_ble_eq_true rfl⟩) (ep_preV hK hZ hw rfl (ckX5_wordInto eo9)) rfl rfl hl.1 rfl (lv_room (Nat.le_of_ble_eq_true rfl)) dX5_orderOf_36 ⟨Nat.le_of_ble_eq_true rfl, Nat.le_of_ble_eq_true rfl⟩) hw (fun H locs hw => ?_)
    obtain ⟨h10, eh10, hf⟩ := ob_s hf
    refine ep_putN (C := RX7) (T := TX7) (N := 4) (ci := 7) hx hb hts in_X7 tyX7 tyX7_ok nmX7 hown hK hw rfl (by decide) 1 (by decide) q510 rfl rfl rfl eh10 dX5_orderOf_39 (fun H locs hw => ?_)
    refine lv_aload_n hx hb dX5_orderOf_42 rfl (lv_at hl 0 rfl) ?_
    refine lv_aload_n hx hb dX5_orderOf_43 rfl (lv_at hl 1 rfl) ?_
    refine lv_iconst (v := iI 1) hx hb dX5_orderOf_44 rfl ?_
    refine lv_bipush (v := iI 9) hx hb dX5_orderOf_45 (by decide) ?_
    obtain ⟨zo11, eo11, hko11⟩ := orL_s hf
    rcases zo11 with xo11 | o11
    · have hf := orL_1 hko11 rfl
      exact ep_outT' hno hlocks (ep_runVT (As := [.int (iI 1), .int (iI 9)]) (rest := [.ref o5.1]) ⟨hx, hb, hml, hown, hts⟩ (metTX5_number l G h10 a0 (iI 1) (iI 9) eo11) (cwV 2 hts (lw_V q418 q420 qs9 q91 q421) rfl rfl rfl hdX5_number ⟨Nat.le_of_ble_eq_true rfl, Nat.le_of_ble_eq_true rfl⟩) (ep_preV hK hZ hw rfl (ckX5_number eo11)) rfl rfl hl.1 rfl (lv_room (Nat.le_of_ble_eq_true rfl)) dX5_orderOf_47 ⟨Nat.le_of_ble_eq_true rfl, Nat.le_of_ble_eq_true rfl⟩) hw hf
    have hf := orL_2 hko11 rfl
    refine ep_calli0 (va_runV (As := [.int (iI 1), .int (iI 9)]) (rest := [.ref o5.1]) ⟨hx, hb, hml, hown, hts⟩ (metX5_number l G h10 a0 (iI 1) (iI 9) eo11) (cwV 2 hts (lw_V q418 q420 qs9 q91 q421) rfl rfl rfl hdX5_number ⟨Nat.le_of_ble_eq_true rfl, Nat.le_of_ble_eq_true rfl⟩) (ep_preV hK hZ hw rfl (ckX5_number eo11)) rfl rfl hl.1 rfl (lv_room (Nat.le_of_ble_eq_true rfl)) dX5_orderOf_47 ⟨Nat.le_of_ble_eq_true rfl, Nat.le_of_ble_eq_true rfl⟩) hw (fun H locs hw => ?_)
    obtain ⟨h12, eh12, hf⟩ := ob_s hf
    refine ep_putN (C := RX7) (T := TX7) (N := 4) (ci := 7) hx hb hts in_X7 tyX7 tyX7_ok nmX7 hown hK hw rfl (by decide) 2 (by decide) q512 rfl rfl rfl eh12 dX5_orderOf_50 (fun H locs hw => ?_)
    refine lv_aload_n hx hb dX5_orderOf_53 rfl (lv_at hl 0 rfl) ?_
    refine lv_aload_n hx hb dX5_orderOf_54 rfl (lv_at hl 1 rfl) ?_
    refine lv_iconst (v := iI 0) hx hb dX5_orderOf_55 rfl ?_
    refine lv_bipush (v := iI 9) hx hb dX5_orderOf_56 (by decide) ?_
    obtain ⟨zo13, eo13, hko13⟩ := orL_s hf
    rcases zo13 with xo13 | o13
    · have hf := orL_1 hko13 rfl
      exact ep_outT' hno hlocks (ep_runVT (As := [.int (iI 0), .int (iI 9)]) (rest := [.ref o5.1]) ⟨hx, hb, hml, hown, hts⟩ (metTX5_number l G h12 a0 (iI 0) (iI 9) eo13) (cwV 2 hts (lw_V q418 q420 qs9 q91 q421) rfl rfl rfl hdX5_number ⟨Nat.le_of_ble_eq_true rfl, Nat.le_of_ble_eq_true rfl⟩) (ep_preV hK hZ hw rfl (ckX5_number eo13)) rfl rfl hl.1 rfl (lv_room (Nat.le_of_ble_eq_true rfl)) dX5_orderOf_58 ⟨Nat.le_of_ble_eq_true rfl, Nat.le_of_ble_eq_true rfl⟩) hw hf
    have hf := orL_2 hko13 rfl
    refine ep_calli0 (va_runV (As := [.int (iI 0), .int (iI 9)]) (rest := [.ref o5.1]) ⟨hx, hb, hml, hown, hts⟩ (metX5_number l G h12 a0 (iI 0) (iI 9) eo13) (cwV 2 hts (lw_V q418 q420 qs9 q91 q421) rfl rfl rfl hdX5_number ⟨Nat.le_of_ble_eq_true rfl, Nat.le_of_ble_eq_true rfl⟩) (ep_preV hK hZ hw rfl (ckX5_number eo13)) rfl rfl hl.1 rfl (lv_room (Nat.le_of_ble_eq_true rfl)) dX5_orderOf_58 ⟨Nat.le_of_ble_eq_true rfl, Nat.le_of_ble_eq_true rfl⟩) hw (fun H locs hw => ?_)
    obtain ⟨h14, eh14, hf⟩ := ob_s hf
    refine ep_putN (C := RX7) (T := TX7) (N := 4) (ci := 7) hx hb hts in_X7 tyX7 tyX7_ok nmX7 hown hK hw rfl (by decide) 3 (by decide) q514 rfl rfl rfl eh14 dX5_orderOf_61 (fun H locs hw => ?_)
    refine lv_aload_n hx hb dX5_orderOf_64 rfl (lv_at hl 1 rfl) ?_
    obtain ⟨r15, er15, hf⟩ := ob_s hf
    refine ep_get (C := RX5) (T := TX5) (N := 11) (ci := 5) hx hb hts in_X5 hown hK hw rfl 2 (by decide) q311 (gR_f er15) dX5_orderOf_65 ?_
    refine lv_aload_n hx hb dX5_orderOf_68 rfl (lv_at hl 1 rfl) ?_
    obtain ⟨v16, ev16, hf⟩ := ob_s hf
    refine ep_get (C := RX5) (T := TX5) (N := 11) (ci := 5) hx hb hts in_X5 hown hK hw rfl 4 (by decide) q316 (gI_f ev16) dX5_orderOf_69 ?_
    refine lv_aload_n hx hb dX5_orderOf_72 rfl (lv_at hl 0 rfl) ?_
    obtain ⟨h17, eh17, hf⟩ := ob_s hf
    refine ep_aast 6 hx hb (by decide) rfl (ci := 7) rfl hK hw eh17 dX5_orderOf_73 (fun H locs hw => ?_)
    refine lv_aload_n hx hb dX5_orderOf_74 rfl (lv_at hl 1 rfl) ?_
    refine lv_dup hx hb dX5_orderOf_75 rfl ?_
    obtain ⟨v18, ev18, hf⟩ := ob_s hf
    refine ep_get (C := RX5) (T := TX5) (N := 11) (ci := 5) hx hb hts in_X5 hown hK hw rfl 4 (by decide) q316 (gI_f ev18) dX5_orderOf_76 ?_
    refine lv_iconst (v := iI 1) hx hb dX5_orderOf_79 rfl ?_
    refine lv_iadd hx hb dX5_orderOf_80 ?_
    obtain ⟨h19, eh19, hf⟩ := ob_s hf
    refine ep_put (C := RX5) (T := TX5) (N := 11) (ci := 5) hx hb hts in_X5 tyX5 tyX5_ok nmX5 hown hK hw rfl (by decide) 4 (by decide) q316 rfl rfl rfl eh19 dX5_orderOf_81 (fun H locs hw => ?_)
    cases hf
  refine lv_icmp_ge (tgt := 13) hx hb dX5_orderOf_6 (by decide) (fun c3 => ?_) (fun c3 => ?_)
  · refine lv_iconst (v := iI 0) hx hb dX5_orderOf_13 rfl ?_
    rw [if_pos c3] at hJ2
    exact hJ2
  · refine lv_iconst (v := iI 1) hx hb dX5_orderOf_9 rfl ?_
    refine lv_goto (tgt := 14) hx hb dX5_orderOf_10 (by decide) ?_
    rw [if_neg c3] at hJ2
    exact hJ2
theorem hdX5_line : yX5_line.cls = RX5 ∧ yX5_line.cls ≠ "java/lang/invoke/MethodHandle" ∧ yX5_line.cls ≠ "java/lang/invoke/VarHandle" ∧ (parseMethodDescriptor yX5_line.desc).map (fun d => d.parameters.length) = some 0 := by decide +kernel
theorem ckX5_line {h : Hp} {a0 : Nat} {res : Thr ⊕ (Hp)} (hf : fX5_line h a0 = some res) : ep_cls h a0 = some 5 := by
  unfold fX5_line at hf
  exact (oi_c hf).1
abbrev wX5_line (p : Program) (l : Launch) (e : Env) (s : State) (m : MethodId) (below : List Frame) (meth : Method) (c : Code) (G : EG) (h : Hp) (a0 : Nat) (res : Hp) (k9 n9 : Nat) (H : Heap) (locs : List Loc) (g : JFrame) : Prop := W p l e (headSpec (ws_ yX5_line cX5_line 2 none) ({ frames := 10, cells := 2, slots := 9, locals := 225 } : Room)).room s m ([.ref a0] : List Value).toArray below meth c H locs k9 n9 (MQ below (ep_Qv G ep_cl res) ([.ref a0] : List Value).toArray s 2 9 (ep_A G)) g
set_option maxHeartbeats 4000000 in
theorem metX5_line (l : Launch) (G : EG) (h : Hp) (a0 : Nat) {res : Hp} (hf : fX5_line h a0 = some (.inr res)) : Met l yX5_line (ws_ yX5_line cX5_line 2 none) ({ frames := 10, cells := 2, slots := 9, locals := 225 } : Room) (ep_Pc G ep_cl h [.ref a0]) (ep_Qv G ep_cl res) 2 9 (ep_A G) := by
  refine Met.ofW (cc := cX5_line) (maxL := 2) (ret := none) (by decide) rfl ?_
  intro p e s m args below meth c s₁ B hml hv
  obtain ⟨rfl, hR, hK, hZ⟩ := hv
  have hx := B.exec
  have hb := B.bytes
  have hr := B.returns
  have hlocks := B.notSynchronized
  have hts := atoms_spec (ws := (ws_ yX5_line cX5_line 2 none)) B.pre
  have hts : ∀ w ∈ lw_all, w.before _ s = true := fun w h => hts w (List.mem_cons_of_mem _ h)
  have hown : s.vm.findClass RX5 = some m.cls := findClass_of_methodNamed B.named
  have hw : ep_W G ep_cl h s s.heap [] := ⟨hR, va_S.rf⟩
  have hl := lv_entry ([.ref a0]) (n := 2) (Nat.le_of_ble_eq_true rfl)
  rw [lg_entry_eq]
  generalize (lg_sl ([.ref a0]) ++ List.replicate (2 - (lg_sl ([.ref a0])).length) Slot.unset).toArray = ls at hl ⊢
  have hl : lv_has ls 2 [(0, .ref a0)] := hl
  unfold fX5_line at hf
  have hf := (oi_c hf).2
  show wX5_line p l e s m below meth c G h a0 res 0 0 s.heap ([]) (F0 m 0 ls [])
  refine lv_aload_n hx hb dX5_line_0 rfl (lv_at hl 0 rfl) ?_
  refine lv_aload_n hx hb dX5_line_1 rfl (lv_at hl 0 rfl) ?_
  obtain ⟨v1, ev1, hf⟩ := ob_s hf
  refine ep_get (C := RX5) (T := TX5) (N := 11) (ci := 5) hx hb hts in_X5 hown hK hw rfl 9 (by decide) q322 (gI_f ev1) dX5_line_2 ?_
  refine lv_iconst (v := iI 1) hx hb dX5_line_5 rfl ?_
  have hJ2 : wX5_line p l e s m below meth c G h a0 res 0 0 s.heap ([]) (F0 m 14 ls [.int (if v1 = (iI 1) then iI 1 else iI 0), .ref a0]) := by
    refine lv_iconst (v := iI 2) hx hb dX5_line_14 rfl ?_
    obtain ⟨zo4, eo4, hko4⟩ := orL_s hf
    rcases zo4 with xo4 | o4
    · have hf := orL_1 hko4 rfl
      cases hf
    have hf := orL_2 hko4 rfl
    refine ep_callv0 (va_runV (As := [.int (if v1 = (iI 1) then iI 1 else iI 0), .int (iI 2)]) (rest := []) ⟨hx, hb, hml, hown, hts⟩ (metX5_must l G h a0 (if v1 = (iI 1) then iI 1 else iI 0) (iI 2) eo4) (cwV 2 hts (lw_V q215 q217 qs2 q91 q218) rfl rfl rfl hdX5_must ⟨Nat.le_of_ble_eq_true rfl, Nat.le_of_ble_eq_true rfl⟩) (ep_preV hK hZ hw rfl (ckX5_must eo4)) rfl rfl hl.1 rfl (lv_room (Nat.le_of_ble_eq_true rfl)) dX5_line_15 ⟨Nat.le_of_ble_eq_true rfl, Nat.le_of_ble_eq_true rfl⟩) hw (fun H locs hw => ?_)
    refine lv_iconst (v := iI 0) hx hb dX5_line_18 rfl ?_
    refine lv_istore_n (lv' := [(1, .int (iI 0)), (0, .ref a0)]) hx hb dX5_line_19 rfl hl (by decide) rfl (fun ls hl => ?_)
    obtain ⟨o5, ho5, hf⟩ := ob_s hf
    have hJ5 : ∀ (H : Heap) (locs : List Loc) (ls : Array Slot), ep_W G ep_cl o4 s H locs → lv_has ls 2 [(0, .ref a0), (1, .int o5)] → wX5_line p l e s m below meth c G h a0 res 0 0 H locs (F0 m 46 ls []) := by
      intro H locs ls hw hl
      refine lv_aload_n hx hb dX5_line_46 rfl (lv_at hl 0 rfl) ?_
      refine lv_iload_n hx hb dX5_line_47 rfl (lv_at hl 1 rfl) ?_
      refine ep_names hx hb hown hK hZ hw q355 dX5_line_48 ?_
      refine ep_nameLen hx hb hZ hw dX5_line_51 ?_
      have hJ10 : wX5_line p l e s m below meth c G h a0 res 0 0 H locs (F0 m 60 ls [.int (if (iI 6) ≤ o5 then iI 0 else iI 1), .ref a0]) := by
        refine lv_iconst (v := iI 2) hx hb dX5_line_60 rfl ?_
        obtain ⟨zo12, eo12, hko12⟩ := orL_s hf
        rcases zo12 with xo12 | o12
        · have hf := orL_1 hko12 rfl
          cases hf
        have hf := orL_2 hko12 rfl
        refine ep_callv0 (va_runV (As := [.int (if (iI 6) ≤ o5 then iI 0 else iI 1), .int (iI 2)]) (rest := []) ⟨hx, hb, hml, hown, hts⟩ (metX5_must l G o4 a0 (if (iI 6) ≤ o5 then iI 0 else iI 1) (iI 2) eo12) (cwV 2 hts (lw_V q215 q217 qs2 q91 q218) rfl rfl rfl hdX5_must ⟨Nat.le_of_ble_eq_true rfl, Nat.le_of_ble_eq_true rfl⟩) (ep_preV hK hZ hw rfl (ckX5_must eo12)) rfl rfl hl.1 rfl (lv_room (Nat.le_of_ble_eq_true rfl)) dX5_line_61 ⟨Nat.le_of_ble_eq_true rfl, Nat.le_of_ble_eq_true rfl⟩) hw (fun H locs hw => ?_)
        refine lv_iload_n hx hb dX5_line_64 rfl (lv_at hl 1 rfl) ?_
        refine lv_iconst (v := iI 3) hx hb dX5_line_65 rfl ?_
        obtain ⟨ox13, ho13, hk13⟩ := orL_s hf
        have hT13 : ∀ r, ox13 = .inl r → some r = some (.inr res) := fun r eo => (by have e := orL_1 hk13 eo; exact e)
        have hJ13 : ∀ o13, ox13 = .inr o13 → ∀ (H : Heap) (locs : List Loc) (ls : Array Slot), ep_W G ep_cl o13 s H locs → lv_has ls 2 [(0, .ref a0)] → wX5_line p l e s m below meth c G h a0 res 2 9 H locs (F0 m 93 ls []) := by
          intro o13 eo H locs ls hw hl
          have hf := orL_2 hk13 eo
          refine lv_aload_n hx hb dX5_line_93 rfl (lv_at hl 0 rfl) ?_
          refine lv_aload_n hx hb dX5_line_94 rfl (lv_at hl 0 rfl) ?_
          obtain ⟨v19, ev19, hf⟩ := ob_s hf
          refine ep_get (C := RX5) (T := TX5) (N := 11) (ci := 5) hx hb hts in_X5 hown hK hw rfl 9 (by decide) q322 (gI_f ev19) dX5_line_95 ?_
          refine lv_iconst (v := iI 3) hx hb dX5_line_98 rfl ?_
          have hJ20 : wX5_line p l e s m below meth c G h a0 res 2 9 H locs (F0 m 107 ls [.int (if v19 = (iI 3) then iI 1 else iI 0), .ref a0]) := by
            refine lv_iconst (v := iI 2) hx hb dX5_line_107 rfl ?_
            obtain ⟨zo22, eo22, hko22⟩ := orL_s hf
            rcases zo22 with xo22 | o22
            · have hf := orL_1 hko22 rfl
              cases hf
            have hf := orL_2 hko22 rfl
            refine ep_callv0 (va_runV (As := [.int (if v19 = (iI 3) then iI 1 else iI 0), .int (iI 2)]) (rest := []) ⟨hx, hb, hml, hown, hts⟩ (metX5_must l G o13 a0 (if v19 = (iI 3) then iI 1 else iI 0) (iI 2) eo22) (cwV 2 hts (lw_V q215 q217 qs2 q91 q218) rfl rfl rfl hdX5_must ⟨Nat.le_of_ble_eq_true rfl, Nat.le_of_ble_eq_true rfl⟩) (ep_preV hK hZ hw rfl (ckX5_must eo22)) rfl rfl hl.1 rfl (lv_room (Nat.le_of_ble_eq_true rfl)) dX5_line_108 ⟨Nat.le_of_ble_eq_true rfl, Nat.le_of_ble_eq_true rfl⟩) hw (fun H locs hw => ?_)
            refine lv_aload_n hx hb dX5_line_111 rfl (lv_at hl 0 rfl) ?_
            refine lv_dup hx hb dX5_line_112 rfl ?_
            obtain ⟨v23, ev23, hf⟩ := ob_s hf
            refine ep_get (C := RX5) (T := TX5) (N := 11) (ci := 5) hx hb hts in_X5 hown hK hw rfl 6 (by decide) q319 (gI_f ev23) dX5_line_113 ?_
            refine lv_iconst (v := iI 1) hx hb dX5_line_116 rfl ?_
            refine lv_iadd hx hb dX5_line_117 ?_
            obtain ⟨h24, eh24, hf⟩ := ob_s hf
            refine ep_put (C := RX5) (T := TX5) (N := 11) (ci := 5) hx hb hts in_X5 tyX5 tyX5_ok nmX5 hown hK hw rfl (by decide) 6 (by decide) q319 rfl rfl rfl eh24 dX5_line_118 (fun H locs hw => ?_)
            refine lv_aload_n hx hb dX5_line_121 rfl (lv_at hl 0 rfl) ?_
            obtain ⟨zo25, eo25, hko25⟩ := orL_s hf
            rcases zo25 with xo25 | o25
            · have hf := orL_1 hko25 rfl
              cases hf
            have hf := orL_2 hko25 rfl
            refine ep_callv0 (va_runV (As := []) (rest := []) ⟨hx, hb, hml, hown, hts⟩ (metX5_next l G h24 a0 eo25) (cwV 0 hts (lw_V q202 q204 qs0 q91 q205) rfl rfl rfl hdX5_next ⟨Nat.le_of_ble_eq_true rfl, Nat.le_of_ble_eq_true rfl⟩) (ep_preV hK hZ hw rfl (ckX5_next eo25)) rfl rfl hl.1 rfl (lv_room (Nat.le_of_ble_eq_true rfl)) dX5_line_122 ⟨Nat.le_of_ble_eq_true rfl, Nat.le_of_ble_eq_true rfl⟩) hw (fun H locs hw => ?_)
            exact ep_retvW hx hb hr hlocks hw (sm_r hf) dX5_line_125
          refine lv_icmp_ne (tgt := 106) hx hb dX5_line_99 (by decide) (fun c21 => ?_) (fun c21 => ?_)
          · refine lv_iconst (v := iI 0) hx hb dX5_line_106 rfl ?_
            rw [if_neg c21] at hJ20
            exact hJ20
          · refine lv_iconst (v := iI 1) hx hb dX5_line_102 rfl ?_
            refine lv_goto (tgt := 107) hx hb dX5_line_103 (by decide) ?_
            rw [if_pos c21] at hJ20
            exact hJ20
        refine lv_icmp_gt (tgt := 77) hx hb dX5_line_66 (by decide) (fun c14 => ?_) (fun c14 => ?_)
        · have ho13 := oi_t ho13 c14
          refine lv_iload_n hx hb dX5_line_77 rfl (lv_at hl 1 rfl) ?_
          refine lv_iconst (v := iI 4) hx hb dX5_line_78 rfl ?_
          refine lv_icmp_ne (tgt := 89) hx hb dX5_line_79 (by decide) (fun c15 => ?_) (fun c15 => ?_)
          · have ho13 := oi_f ho13 c15
            refine lv_aload_n hx hb dX5_line_89 rfl (lv_at hl 0 rfl) ?_
            obtain ⟨zo16, eo16, hko16⟩ := orL_s ho13
            rcases zo16 with xo16 | o16
            · have ho13 := orL_1 hko16 rfl
              cases hT13 _ (Option.some.inj ho13).symm
            have ho13 := orL_2 hko16 rfl
            refine ep_callv (va_runV (As := []) (rest := []) ⟨hx, hb, hml, hown, hts⟩ (metX5_orderOf l G o12 a0 eo16) (cwV 0 hts (lw_V q498 q500 qs13 q91 q501) rfl rfl rfl hdX5_orderOf ⟨Nat.le_of_ble_eq_true rfl, Nat.le_of_ble_eq_true rfl⟩) (ep_preV hK hZ hw rfl (ckX5_orderOf eo16)) rfl rfl hl.1 rfl (lv_room (Nat.le_of_ble_eq_true rfl)) dX5_line_90 ⟨Nat.le_of_ble_eq_true rfl, Nat.le_of_ble_eq_true rfl⟩) hw (fun H locs hw => ?_)
            exact hJ13 _ (Option.some.inj ho13).symm _ _ _ hw (lv_sub hl [0] rfl)
          · have ho13 := oi_t ho13 c15
            refine lv_aload_n hx hb dX5_line_82 rfl (lv_at hl 0 rfl) ?_
            obtain ⟨zo17, eo17, hko17⟩ := orL_s ho13
            rcases zo17 with xo17 | o17
            · have ho13 := orL_1 hko17 rfl
              cases hT13 _ (Option.some.inj ho13).symm
            have ho13 := orL_2 hko17 rfl
            refine ep_callv0 (va_runV (As := []) (rest := []) ⟨hx, hb, hml, hown, hts⟩ (metX5_penOf l G o12 a0 eo17) (cwV 0 hts (lw_V q432 q434 qs11 q91 q435) rfl rfl rfl hdX5_penOf ⟨Nat.le_of_ble_eq_true rfl, Nat.le_of_ble_eq_true rfl⟩) (ep_preV hK hZ hw rfl (ckX5_penOf eo17)) rfl rfl hl.1 rfl (lv_room (Nat.le_of_ble_eq_true rfl)) dX5_line_83 ⟨Nat.le_of_ble_eq_true rfl, Nat.le_of_ble_eq_true rfl⟩) hw (fun H locs hw => ?_)
            refine lv_goto (tgt := 93) hx hb dX5_line_86 (by decide) ?_
            refine W.widen (k := 2) (n := 9) (Nat.le_of_ble_eq_true rfl) (Nat.le_of_ble_eq_true rfl) ?_
            exact hJ13 _ (Option.some.inj ho13).symm _ _ _ hw (lv_sub hl [0] rfl)
        · have ho13 := oi_f ho13 c14
          refine lv_aload_n hx hb dX5_line_69 rfl (lv_at hl 0 rfl) ?_
          refine lv_iload_n hx hb dX5_line_70 rfl (lv_at hl 1 rfl) ?_
          obtain ⟨zo18, eo18, hko18⟩ := orL_s ho13
          rcases zo18 with xo18 | o18
          · have ho13 := orL_1 hko18 rfl
            cases hT13 _ (Option.some.inj ho13).symm
          have ho13 := orL_2 hko18 rfl
          refine ep_callv0 (va_runV (As := [.int o5]) (rest := []) ⟨hx, hb, hml, hown, hts⟩ (metX5_echoOf l G o12 a0 o5 eo18) (cwV 1 hts (lw_V q409 q411 qs7 q91 q412) rfl rfl rfl hdX5_echoOf ⟨Nat.le_of_ble_eq_true rfl, Nat.le_of_ble_eq_true rfl⟩) (ep_preV hK hZ hw rfl (ckX5_echoOf eo18)) rfl rfl hl.1 rfl (lv_room (Nat.le_of_ble_eq_true rfl)) dX5_line_71 ⟨Nat.le_of_ble_eq_true rfl, Nat.le_of_ble_eq_true rfl⟩) hw (fun H locs hw => ?_)
          refine lv_goto (tgt := 93) hx hb dX5_line_74 (by decide) ?_
          refine W.widen (k := 2) (n := 9) (Nat.le_of_ble_eq_true rfl) (Nat.le_of_ble_eq_true rfl) ?_
          exact hJ13 _ (Option.some.inj ho13).symm _ _ _ hw (lv_sub hl [0] rfl)
      refine lv_icmp_ge (tgt := 59) hx hb dX5_line_52 (by decide) (fun c11 => ?_) (fun c11 => ?_)
      · refine lv_iconst (v := iI 0) hx hb dX5_line_59 rfl ?_
        rw [if_pos c11] at hJ10
        exact hJ10
      · refine lv_iconst (v := iI 1) hx hb dX5_line_55 rfl ?_
        refine lv_goto (tgt := 60) hx hb dX5_line_56 (by decide) ?_
        rw [if_neg c11] at hJ10
        exact hJ10
    have hL5 : ∀ (fu : Nat) (x1 : Int32), fX5_line_L20 o4 a0 fu x1 = some o5 → ∀ (H : Heap) (locs : List Loc) (ls : Array Slot), ep_W G ep_cl o4 s H locs → lv_has ls 2 [(0, .ref a0), (1, .int x1)] → wX5_line p l e s m below meth c G h a0 res 0 0 H locs (F0 m 20 ls []) := by
      intro fu
      induction fu with
      | zero => intro x1 ho5; cases ho5
      | succ fu ih5 =>
        intro x1 ho5 H locs ls hw hl
        rw [fX5_line_L20] at ho5
        refine lv_iload_n hx hb dX5_line_20 rfl (lv_at hl 1 rfl) ?_
        refine ep_names hx hb hown hK hZ hw q355 dX5_line_21 ?_
        refine ep_nameLen hx hb hZ hw dX5_line_24 ?_
        refine lv_icmp_ge (tgt := 46) hx hb dX5_line_25 (by decide) (fun c6 => ?_) (fun c6 => ?_)
        · have ho5 := oi_t ho5 c6
          obtain rfl := Option.some.inj ho5
          exact hJ5 _ _ _ hw (lv_sub hl [0, 1] rfl)
        · have ho5 := oi_f ho5 c6
          refine lv_aload_n hx hb dX5_line_28 rfl (lv_at hl 0 rfl) ?_
          refine ep_names hx hb hown hK hZ hw q355 dX5_line_29 ?_
          refine lv_iload_n hx hb dX5_line_32 rfl (lv_at hl 1 rfl) ?_
          obtain ⟨k7, ek7, ho5⟩ := ob_s ho5
          refine ep_nameAt hx hb hZ hw ek7 dX5_line_33 ?_
          obtain ⟨v8, ev8, ho5⟩ := ob_s ho5
          refine ep_calli0 (va_runV (As := [.ref (G.2.2.2 (10 + k7))]) (rest := []) ⟨hx, hb, hml, hown, hts⟩ (metX5_isWord l G o4 a0 k7 ev8) (cwV 1 hts (lw_V q357 q359 qs6 q91 q360) rfl rfl rfl hdX5_isWord ⟨Nat.le_of_ble_eq_true rfl, Nat.le_of_ble_eq_true rfl⟩) (ep_preV hK hZ hw rfl (ckX5_isWord ev8)) rfl rfl hl.1 rfl (lv_room (Nat.le_of_ble_eq_true rfl)) dX5_line_34 ⟨Nat.le_of_ble_eq_true rfl, Nat.le_of_ble_eq_true rfl⟩) hw (fun H locs hw => ?_)
          refine lv_if_ne (tgt := 46) hx hb dX5_line_37 (by decide) (fun c9 => ?_) (fun c9 => ?_)
          · have ho5 := oi_f ho5 c9
            obtain rfl := Option.some.inj ho5
            exact hJ5 _ _ _ hw (lv_sub hl [0, 1] rfl)
          · have ho5 := oi_t ho5 c9
            refine lv_iinc (v := (x1 + iI 1)) (lv' := [(1, .int (x1 + iI 1)), (0, .ref a0)]) hx hb dX5_line_40 hl (k := 1) rfl rfl (by decide) rfl (fun ls hl => ?_)
            refine lv_goto (tgt := 20) hx hb dX5_line_43 (by decide) ?_
            exact ih5 _ ho5 _ _ _ hw (lv_sub hl [1, 0] rfl)
    exact hL5 FUEL _ ho5 _ _ _ hw (lv_sub hl [1, 0] rfl)
  refine lv_icmp_ne (tgt := 13) hx hb dX5_line_6 (by decide) (fun c3 => ?_) (fun c3 => ?_)
  · refine lv_iconst (v := iI 0) hx hb dX5_line_13 rfl ?_
    rw [if_neg c3] at hJ2
    exact hJ2
  · refine lv_iconst (v := iI 1) hx hb dX5_line_9 rfl ?_
    refine lv_goto (tgt := 14) hx hb dX5_line_10 (by decide) ?_
    rw [if_pos c3] at hJ2
    exact hJ2
abbrev wTX5_line (p : Program) (l : Launch) (e : Env) (s : State) (m : MethodId) (below : List Frame) (meth : Method) (c : Code) (G : EG) (h : Hp) (a0 : Nat) (res : Thr) (k9 n9 : Nat) (H : Heap) (locs : List Loc) (g : JFrame) : Prop := W p l e (headSpec (ws_ yX5_line cX5_line 2 none) ({ frames := 10, cells := 3, slots := 17, locals := 225 } : Room)).room s m ([.ref a0] : List Value).toArray below meth c H locs k9 n9 (MQT below (ep_Qt G ep_cl res) ([.ref a0] : List Value).toArray s 3 17 (ep_A G)) g
set_option maxHeartbeats 4000000 in
theorem metTX5_line (l : Launch) (G : EG) (h : Hp) (a0 : Nat) {res : Thr} (hf : fX5_line h a0 = some (.inl res)) : MetT l yX5_line (ws_ yX5_line cX5_line 2 none) ({ frames := 10, cells := 3, slots := 17, locals := 225 } : Room) (ep_Pc G ep_cl h [.ref a0]) (ep_Qt G ep_cl res) 3 17 (ep_A G) := by
  refine MetT.ofW (cc := cX5_line) (maxL := 2) (ret := none) (by decide) rfl ?_
  intro p e s m args below meth c s₁ B hml hv
  obtain ⟨rfl, hR, hK, hZ⟩ := hv
  have hx := B.exec
  have hb := B.bytes
  have hr := B.returns
  have hlocks := B.notSynchronized
  have hts := atoms_spec (ws := (ws_ yX5_line cX5_line 2 none)) B.pre
  have hno : c.exceptionTable.toList = [] := by
    have h := B.noHandlers (hts _ List.mem_cons_self)
    simpa using h
  have hts : ∀ w ∈ lw_all, w.before _ s = true := fun w h => hts w (List.mem_cons_of_mem _ h)
  have hown : s.vm.findClass RX5 = some m.cls := findClass_of_methodNamed B.named
  have hw : ep_W G ep_cl h s s.heap [] := ⟨hR, va_S.rf⟩
  have hl := lv_entry ([.ref a0]) (n := 2) (Nat.le_of_ble_eq_true rfl)
  rw [lg_entry_eq]
  generalize (lg_sl ([.ref a0]) ++ List.replicate (2 - (lg_sl ([.ref a0])).length) Slot.unset).toArray = ls at hl ⊢
  have hl : lv_has ls 2 [(0, .ref a0)] := hl
  unfold fX5_line at hf
  have hf := (oi_c hf).2
  show wTX5_line p l e s m below meth c G h a0 res 0 0 s.heap ([]) (F0 m 0 ls [])
  refine lv_aload_n hx hb dX5_line_0 rfl (lv_at hl 0 rfl) ?_
  refine lv_aload_n hx hb dX5_line_1 rfl (lv_at hl 0 rfl) ?_
  obtain ⟨v1, ev1, hf⟩ := ob_s hf
  refine ep_get (C := RX5) (T := TX5) (N := 11) (ci := 5) hx hb hts in_X5 hown hK hw rfl 9 (by decide) q322 (gI_f ev1) dX5_line_2 ?_
  refine lv_iconst (v := iI 1) hx hb dX5_line_5 rfl ?_
  have hJ2 : wTX5_line p l e s m below meth c G h a0 res 0 0 s.heap ([]) (F0 m 14 ls [.int (if v1 = (iI 1) then iI 1 else iI 0), .ref a0]) := by
    refine lv_iconst (v := iI 2) hx hb dX5_line_14 rfl ?_
    obtain ⟨zo4, eo4, hko4⟩ := orL_s hf
    rcases zo4 with xo4 | o4
    · have hf := orL_1 hko4 rfl
      refine W.widen (k := 2) (n := 9) (Nat.le_of_ble_eq_true rfl) (Nat.le_of_ble_eq_true rfl) ?_
      exact ep_outT' hno hlocks (ep_runVT (As := [.int (if v1 = (iI 1) then iI 1 else iI 0), .int (iI 2)]) (rest := []) ⟨hx, hb, hml, hown, hts⟩ (metTX5_must l G h a0 (if v1 = (iI 1) then iI 1 else iI 0) (iI 2) eo4) (cwV 2 hts (lw_V q215 q217 qs2 q91 q218) rfl rfl rfl hdX5_must ⟨Nat.le_of_ble_eq_true rfl, Nat.le_of_ble_eq_true rfl⟩) (ep_preV hK hZ hw rfl (ckX5_must eo4)) rfl rfl hl.1 rfl (lv_room (Nat.le_of_ble_eq_true rfl)) dX5_line_15 ⟨Nat.le_of_ble_eq_true rfl, Nat.le_of_ble_eq_true rfl⟩) hw hf
    have hf := orL_2 hko4 rfl
    refine ep_callv0 (va_runV (As := [.int (if v1 = (iI 1) then iI 1 else iI 0), .int (iI 2)]) (rest := []) ⟨hx, hb, hml, hown, hts⟩ (metX5_must l G h a0 (if v1 = (iI 1) then iI 1 else iI 0) (iI 2) eo4) (cwV 2 hts (lw_V q215 q217 qs2 q91 q218) rfl rfl rfl hdX5_must ⟨Nat.le_of_ble_eq_true rfl, Nat.le_of_ble_eq_true rfl⟩) (ep_preV hK hZ hw rfl (ckX5_must eo4)) rfl rfl hl.1 rfl (lv_room (Nat.le_of_ble_eq_true rfl)) dX5_line_15 ⟨Nat.le_of_ble_eq_true rfl, Nat.le_of_ble_eq_true rfl⟩) hw (fun H locs hw => ?_)
    refine lv_iconst (v := iI 0) hx hb dX5_line_18 rfl ?_
    refine lv_istore_n (lv' := [(1, .int (iI 0)), (0, .ref a0)]) hx hb dX5_line_19 rfl hl (by decide) rfl (fun ls hl => ?_)
    obtain ⟨o5, ho5, hf⟩ := ob_s hf
    have hJ5 : ∀ (H : Heap) (locs : List Loc) (ls : Array Slot), ep_W G ep_cl o4 s H locs → lv_has ls 2 [(0, .ref a0), (1, .int o5)] → wTX5_line p l e s m below meth c G h a0 res 0 0 H locs (F0 m 46 ls []) := by
      intro H locs ls hw hl
      refine lv_aload_n hx hb dX5_line_46 rfl (lv_at hl 0 rfl) ?_
      refine lv_iload_n hx hb dX5_line_47 rfl (lv_at hl 1 rfl) ?_
      refine ep_names hx hb hown hK hZ hw q355 dX5_line_48 ?_
      refine ep_nameLen hx hb hZ hw dX5_line_51 ?_
      have hJ10 : wTX5_line p l e s m below meth c G h a0 res 0 0 H locs (F0 m 60 ls [.int (if (iI 6) ≤ o5 then iI 0 else iI 1), .ref a0]) := by
        refine lv_iconst (v := iI 2) hx hb dX5_line_60 rfl ?_
        obtain ⟨zo12, eo12, hko12⟩ := orL_s hf
        rcases zo12 with xo12 | o12
        · have hf := orL_1 hko12 rfl
          refine W.widen (k := 2) (n := 9) (Nat.le_of_ble_eq_true rfl) (Nat.le_of_ble_eq_true rfl) ?_
          exact ep_outT' hno hlocks (ep_runVT (As := [.int (if (iI 6) ≤ o5 then iI 0 else iI 1), .int (iI 2)]) (rest := []) ⟨hx, hb, hml, hown, hts⟩ (metTX5_must l G o4 a0 (if (iI 6) ≤ o5 then iI 0 else iI 1) (iI 2) eo12) (cwV 2 hts (lw_V q215 q217 qs2 q91 q218) rfl rfl rfl hdX5_must ⟨Nat.le_of_ble_eq_true rfl, Nat.le_of_ble_eq_true rfl⟩) (ep_preV hK hZ hw rfl (ckX5_must eo12)) rfl rfl hl.1 rfl (lv_room (Nat.le_of_ble_eq_true rfl)) dX5_line_61 ⟨Nat.le_of_ble_eq_true rfl, Nat.le_of_ble_eq_true rfl⟩) hw hf
        have hf := orL_2 hko12 rfl
        refine ep_callv0 (va_runV (As := [.int (if (iI 6) ≤ o5 then iI 0 else iI 1), .int (iI 2)]) (rest := []) ⟨hx, hb, hml, hown, hts⟩ (metX5_must l G o4 a0 (if (iI 6) ≤ o5 then iI 0 else iI 1) (iI 2) eo12) (cwV 2 hts (lw_V q215 q217 qs2 q91 q218) rfl rfl rfl hdX5_must ⟨Nat.le_of_ble_eq_true rfl, Nat.le_of_ble_eq_true rfl⟩) (ep_preV hK hZ hw rfl (ckX5_must eo12)) rfl rfl hl.1 rfl (lv_room (Nat.le_of_ble_eq_true rfl)) dX5_line_61 ⟨Nat.le_of_ble_eq_true rfl, Nat.le_of_ble_eq_true rfl⟩) hw (fun H locs hw => ?_)
        refine lv_iload_n hx hb dX5_line_64 rfl (lv_at hl 1 rfl) ?_
        refine lv_iconst (v := iI 3) hx hb dX5_line_65 rfl ?_
        obtain ⟨ox13, ho13, hk13⟩ := orL_s hf
        have hT13 : ∀ r, ox13 = .inl r → some r = some (.inl res) := fun r eo => (by have e := orL_1 hk13 eo; exact e)
        have hJ13 : ∀ o13, ox13 = .inr o13 → ∀ (H : Heap) (locs : List Loc) (ls : Array Slot), ep_W G ep_cl o13 s H locs → lv_has ls 2 [(0, .ref a0)] → wTX5_line p l e s m below meth c G h a0 res 2 9 H locs (F0 m 93 ls []) := by
          intro o13 eo H locs ls hw hl
          have hf := orL_2 hk13 eo
          refine lv_aload_n hx hb dX5_line_93 rfl (lv_at hl 0 rfl) ?_
          refine lv_aload_n hx hb dX5_line_94 rfl (lv_at hl 0 rfl) ?_
          obtain ⟨v19, ev19, hf⟩ := ob_s hf
          refine ep_get (C := RX5) (T := TX5) (N := 11) (ci := 5) hx hb hts in_X5 hown hK hw rfl 9 (by decide) q322 (gI_f ev19) dX5_line_95 ?_
          refine lv_iconst (v := iI 3) hx hb dX5_line_98 rfl ?_
          have hJ20 : wTX5_line p l e s m below meth c G h a0 res 2 9 H locs (F0 m 107 ls [.int (if v19 = (iI 3) then iI 1 else iI 0), .ref a0]) := by
            refine lv_iconst (v := iI 2) hx hb dX5_line_107 rfl ?_
            obtain ⟨zo22, eo22, hko22⟩ := orL_s hf
            rcases zo22 with xo22 | o22
            · have hf := orL_1 hko22 rfl
              exact ep_outT' hno hlocks (ep_runVT (As := [.int (if v19 = (iI 3) then iI 1 else iI 0), .int (iI 2)]) (rest := []) ⟨hx, hb, hml, hown, hts⟩ (metTX5_must l G o13 a0 (if v19 = (iI 3) then iI 1 else iI 0) (iI 2) eo22) (cwV 2 hts (lw_V q215 q217 qs2 q91 q218) rfl rfl rfl hdX5_must ⟨Nat.le_of_ble_eq_true rfl, Nat.le_of_ble_eq_true rfl⟩) (ep_preV hK hZ hw rfl (ckX5_must eo22)) rfl rfl hl.1 rfl (lv_room (Nat.le_of_ble_eq_true rfl)) dX5_line_108 ⟨Nat.le_of_ble_eq_true rfl, Nat.le_of_ble_eq_true rfl⟩) hw hf
            have hf := orL_2 hko22 rfl
            refine ep_callv0 (va_runV (As := [.int (if v19 = (iI 3) then iI 1 else iI 0), .int (iI 2)]) (rest := []) ⟨hx, hb, hml, hown, hts⟩ (metX5_must l G o13 a0 (if v19 = (iI 3) then iI 1 else iI 0) (iI 2) eo22) (cwV 2 hts (lw_V q215 q217 qs2 q91 q218) rfl rfl rfl hdX5_must ⟨Nat.le_of_ble_eq_true rfl, Nat.le_of_ble_eq_true rfl⟩) (ep_preV hK hZ hw rfl (ckX5_must eo22)) rfl rfl hl.1 rfl (lv_room (Nat.le_of_ble_eq_true rfl)) dX5_line_108 ⟨Nat.le_of_ble_eq_true rfl, Nat.le_of_ble_eq_true rfl⟩) hw (fun H locs hw => ?_)
            refine lv_aload_n hx hb dX5_line_111 rfl (lv_at hl 0 rfl) ?_
            refine lv_dup hx hb dX5_line_112 rfl ?_
            obtain ⟨v23, ev23, hf⟩ := ob_s hf
            refine ep_get (C := RX5) (T := TX5) (N := 11) (ci := 5) hx hb hts in_X5 hown hK hw rfl 6 (by decide) q319 (gI_f ev23) dX5_line_113 ?_
            refine lv_iconst (v := iI 1) hx hb dX5_line_116 rfl ?_
            refine lv_iadd hx hb dX5_line_117 ?_
            obtain ⟨h24, eh24, hf⟩ := ob_s hf
            refine ep_put (C := RX5) (T := TX5) (N := 11) (ci := 5) hx hb hts in_X5 tyX5 tyX5_ok nmX5 hown hK hw rfl (by decide) 6 (by decide) q319 rfl rfl rfl eh24 dX5_line_118 (fun H locs hw => ?_)
            refine lv_aload_n hx hb dX5_line_121 rfl (lv_at hl 0 rfl) ?_
            obtain ⟨zo25, eo25, hko25⟩ := orL_s hf
            rcases zo25 with xo25 | o25
            · have hf := orL_1 hko25 rfl
              exact ep_outT' hno hlocks (ep_runVT (As := []) (rest := []) ⟨hx, hb, hml, hown, hts⟩ (metTX5_next l G h24 a0 eo25) (cwV 0 hts (lw_V q202 q204 qs0 q91 q205) rfl rfl rfl hdX5_next ⟨Nat.le_of_ble_eq_true rfl, Nat.le_of_ble_eq_true rfl⟩) (ep_preV hK hZ hw rfl (ckX5_next eo25)) rfl rfl hl.1 rfl (lv_room (Nat.le_of_ble_eq_true rfl)) dX5_line_122 ⟨Nat.le_of_ble_eq_true rfl, Nat.le_of_ble_eq_true rfl⟩) hw hf
            have hf := orL_2 hko25 rfl
            refine ep_callv0 (va_runV (As := []) (rest := []) ⟨hx, hb, hml, hown, hts⟩ (metX5_next l G h24 a0 eo25) (cwV 0 hts (lw_V q202 q204 qs0 q91 q205) rfl rfl rfl hdX5_next ⟨Nat.le_of_ble_eq_true rfl, Nat.le_of_ble_eq_true rfl⟩) (ep_preV hK hZ hw rfl (ckX5_next eo25)) rfl rfl hl.1 rfl (lv_room (Nat.le_of_ble_eq_true rfl)) dX5_line_122 ⟨Nat.le_of_ble_eq_true rfl, Nat.le_of_ble_eq_true rfl⟩) hw (fun H locs hw => ?_)
            cases hf
          refine lv_icmp_ne (tgt := 106) hx hb dX5_line_99 (by decide) (fun c21 => ?_) (fun c21 => ?_)
          · refine lv_iconst (v := iI 0) hx hb dX5_line_106 rfl ?_
            rw [if_neg c21] at hJ20
            exact hJ20
          · refine lv_iconst (v := iI 1) hx hb dX5_line_102 rfl ?_
            refine lv_goto (tgt := 107) hx hb dX5_line_103 (by decide) ?_
            rw [if_pos c21] at hJ20
            exact hJ20
        refine lv_icmp_gt (tgt := 77) hx hb dX5_line_66 (by decide) (fun c14 => ?_) (fun c14 => ?_)
        · have ho13 := oi_t ho13 c14
          refine lv_iload_n hx hb dX5_line_77 rfl (lv_at hl 1 rfl) ?_
          refine lv_iconst (v := iI 4) hx hb dX5_line_78 rfl ?_
          refine lv_icmp_ne (tgt := 89) hx hb dX5_line_79 (by decide) (fun c15 => ?_) (fun c15 => ?_)
          · have ho13 := oi_f ho13 c15
            refine lv_aload_n hx hb dX5_line_89 rfl (lv_at hl 0 rfl) ?_
            obtain ⟨zo16, eo16, hko16⟩ := orL_s ho13
            rcases zo16 with xo16 | o16
            · have ho13 := orL_1 hko16 rfl
              exact ep_outT' hno hlocks (ep_runVT (As := []) (rest := []) ⟨hx, hb, hml, hown, hts⟩ (metTX5_orderOf l G o12 a0 eo16) (cwV 0 hts (lw_V q498 q500 qs13 q91 q501) rfl rfl rfl hdX5_orderOf ⟨Nat.le_of_ble_eq_true rfl, Nat.le_of_ble_eq_true rfl⟩) (ep_preV hK hZ hw rfl (ckX5_orderOf eo16)) rfl rfl hl.1 rfl (lv_room (Nat.le_of_ble_eq_true rfl)) dX5_line_90 ⟨Nat.le_of_ble_eq_true rfl, Nat.le_of_ble_eq_true rfl⟩) hw (hT13 _ (Option.some.inj ho13).symm)
            have ho13 := orL_2 hko16 rfl
            refine ep_callv (va_runV (As := []) (rest := []) ⟨hx, hb, hml, hown, hts⟩ (metX5_orderOf l G o12 a0 eo16) (cwV 0 hts (lw_V q498 q500 qs13 q91 q501) rfl rfl rfl hdX5_orderOf ⟨Nat.le_of_ble_eq_true rfl, Nat.le_of_ble_eq_true rfl⟩) (ep_preV hK hZ hw rfl (ckX5_orderOf eo16)) rfl rfl hl.1 rfl (lv_room (Nat.le_of_ble_eq_true rfl)) dX5_line_90 ⟨Nat.le_of_ble_eq_true rfl, Nat.le_of_ble_eq_true rfl⟩) hw (fun H locs hw => ?_)
            exact hJ13 _ (Option.some.inj ho13).symm _ _ _ hw (lv_sub hl [0] rfl)
          · have ho13 := oi_t ho13 c15
            refine lv_aload_n hx hb dX5_line_82 rfl (lv_at hl 0 rfl) ?_
            obtain ⟨zo17, eo17, hko17⟩ := orL_s ho13
            rcases zo17 with xo17 | o17
            · have ho13 := orL_1 hko17 rfl
              refine W.widen (k := 2) (n := 9) (Nat.le_of_ble_eq_true rfl) (Nat.le_of_ble_eq_true rfl) ?_
              exact ep_outT' hno hlocks (ep_runVT (As := []) (rest := []) ⟨hx, hb, hml, hown, hts⟩ (metTX5_penOf l G o12 a0 eo17) (cwV 0 hts (lw_V q432 q434 qs11 q91 q435) rfl rfl rfl hdX5_penOf ⟨Nat.le_of_ble_eq_true rfl, Nat.le_of_ble_eq_true rfl⟩) (ep_preV hK hZ hw rfl (ckX5_penOf eo17)) rfl rfl hl.1 rfl (lv_room (Nat.le_of_ble_eq_true rfl)) dX5_line_83 ⟨Nat.le_of_ble_eq_true rfl, Nat.le_of_ble_eq_true rfl⟩) hw (hT13 _ (Option.some.inj ho13).symm)
            have ho13 := orL_2 hko17 rfl
            refine ep_callv0 (va_runV (As := []) (rest := []) ⟨hx, hb, hml, hown, hts⟩ (metX5_penOf l G o12 a0 eo17) (cwV 0 hts (lw_V q432 q434 qs11 q91 q435) rfl rfl rfl hdX5_penOf ⟨Nat.le_of_ble_eq_true rfl, Nat.le_of_ble_eq_true rfl⟩) (ep_preV hK hZ hw rfl (ckX5_penOf eo17)) rfl rfl hl.1 rfl (lv_room (Nat.le_of_ble_eq_true rfl)) dX5_line_83 ⟨Nat.le_of_ble_eq_true rfl, Nat.le_of_ble_eq_true rfl⟩) hw (fun H locs hw => ?_)
            refine lv_goto (tgt := 93) hx hb dX5_line_86 (by decide) ?_
            refine W.widen (k := 2) (n := 9) (Nat.le_of_ble_eq_true rfl) (Nat.le_of_ble_eq_true rfl) ?_
            exact hJ13 _ (Option.some.inj ho13).symm _ _ _ hw (lv_sub hl [0] rfl)
        · have ho13 := oi_f ho13 c14
          refine lv_aload_n hx hb dX5_line_69 rfl (lv_at hl 0 rfl) ?_
          refine lv_iload_n hx hb dX5_line_70 rfl (lv_at hl 1 rfl) ?_
          obtain ⟨zo18, eo18, hko18⟩ := orL_s ho13
          rcases zo18 with xo18 | o18
          · have ho13 := orL_1 hko18 rfl
            refine W.widen (k := 2) (n := 9) (Nat.le_of_ble_eq_true rfl) (Nat.le_of_ble_eq_true rfl) ?_
            exact ep_outT' hno hlocks (ep_runVT (As := [.int o5]) (rest := []) ⟨hx, hb, hml, hown, hts⟩ (metTX5_echoOf l G o12 a0 o5 eo18) (cwV 1 hts (lw_V q409 q411 qs7 q91 q412) rfl rfl rfl hdX5_echoOf ⟨Nat.le_of_ble_eq_true rfl, Nat.le_of_ble_eq_true rfl⟩) (ep_preV hK hZ hw rfl (ckX5_echoOf eo18)) rfl rfl hl.1 rfl (lv_room (Nat.le_of_ble_eq_true rfl)) dX5_line_71 ⟨Nat.le_of_ble_eq_true rfl, Nat.le_of_ble_eq_true rfl⟩) hw (hT13 _ (Option.some.inj ho13).symm)
          have ho13 := orL_2 hko18 rfl
          refine ep_callv0 (va_runV (As := [.int o5]) (rest := []) ⟨hx, hb, hml, hown, hts⟩ (metX5_echoOf l G o12 a0 o5 eo18) (cwV 1 hts (lw_V q409 q411 qs7 q91 q412) rfl rfl rfl hdX5_echoOf ⟨Nat.le_of_ble_eq_true rfl, Nat.le_of_ble_eq_true rfl⟩) (ep_preV hK hZ hw rfl (ckX5_echoOf eo18)) rfl rfl hl.1 rfl (lv_room (Nat.le_of_ble_eq_true rfl)) dX5_line_71 ⟨Nat.le_of_ble_eq_true rfl, Nat.le_of_ble_eq_true rfl⟩) hw (fun H locs hw => ?_)
          refine lv_goto (tgt := 93) hx hb dX5_line_74 (by decide) ?_
          refine W.widen (k := 2) (n := 9) (Nat.le_of_ble_eq_true rfl) (Nat.le_of_ble_eq_true rfl) ?_
          exact hJ13 _ (Option.some.inj ho13).symm _ _ _ hw (lv_sub hl [0] rfl)
      refine lv_icmp_ge (tgt := 59) hx hb dX5_line_52 (by decide) (fun c11 => ?_) (fun c11 => ?_)
      · refine lv_iconst (v := iI 0) hx hb dX5_line_59 rfl ?_
        rw [if_pos c11] at hJ10
        exact hJ10
      · refine lv_iconst (v := iI 1) hx hb dX5_line_55 rfl ?_
        refine lv_goto (tgt := 60) hx hb dX5_line_56 (by decide) ?_
        rw [if_neg c11] at hJ10
        exact hJ10
    have hL5 : ∀ (fu : Nat) (x1 : Int32), fX5_line_L20 o4 a0 fu x1 = some o5 → ∀ (H : Heap) (locs : List Loc) (ls : Array Slot), ep_W G ep_cl o4 s H locs → lv_has ls 2 [(0, .ref a0), (1, .int x1)] → wTX5_line p l e s m below meth c G h a0 res 0 0 H locs (F0 m 20 ls []) := by
      intro fu
      induction fu with
      | zero => intro x1 ho5; cases ho5
      | succ fu ih5 =>
        intro x1 ho5 H locs ls hw hl
        rw [fX5_line_L20] at ho5
        refine lv_iload_n hx hb dX5_line_20 rfl (lv_at hl 1 rfl) ?_
        refine ep_names hx hb hown hK hZ hw q355 dX5_line_21 ?_
        refine ep_nameLen hx hb hZ hw dX5_line_24 ?_
        refine lv_icmp_ge (tgt := 46) hx hb dX5_line_25 (by decide) (fun c6 => ?_) (fun c6 => ?_)
        · have ho5 := oi_t ho5 c6
          obtain rfl := Option.some.inj ho5
          exact hJ5 _ _ _ hw (lv_sub hl [0, 1] rfl)
        · have ho5 := oi_f ho5 c6
          refine lv_aload_n hx hb dX5_line_28 rfl (lv_at hl 0 rfl) ?_
          refine ep_names hx hb hown hK hZ hw q355 dX5_line_29 ?_
          refine lv_iload_n hx hb dX5_line_32 rfl (lv_at hl 1 rfl) ?_
          obtain ⟨k7, ek7, ho5⟩ := ob_s ho5
          refine ep_nameAt hx hb hZ hw ek7 dX5_line_33 ?_
          obtain ⟨v8, ev8, ho5⟩ := ob_s ho5
          refine ep_calli0 (va_runV (As := [.ref (G.2.2.2 (10 + k7))]) (rest := []) ⟨hx, hb, hml, hown, hts⟩ (metX5_isWord l G o4 a0 k7 ev8) (cwV 1 hts (lw_V q357 q359 qs6 q91 q360) rfl rfl rfl hdX5_isWord ⟨Nat.le_of_ble_eq_true rfl, Nat.le_of_ble_eq_true rfl⟩) (ep_preV hK hZ hw rfl (ckX5_isWord ev8)) rfl rfl hl.1 rfl (lv_room (Nat.le_of_ble_eq_true rfl)) dX5_line_34 ⟨Nat.le_of_ble_eq_true rfl, Nat.le_of_ble_eq_true rfl⟩) hw (fun H locs hw => ?_)
          refine lv_if_ne (tgt := 46) hx hb dX5_line_37 (by decide) (fun c9 => ?_) (fun c9 => ?_)
          · have ho5 := oi_f ho5 c9
            obtain rfl := Option.some.inj ho5
            exact hJ5 _ _ _ hw (lv_sub hl [0, 1] rfl)
          · have ho5 := oi_t ho5 c9
            refine lv_iinc (v := (x1 + iI 1)) (lv' := [(1, .int (x1 + iI 1)), (0, .ref a0)]) hx hb dX5_line_40 hl (k := 1) rfl rfl (by decide) rfl (fun ls hl => ?_)
            refine lv_goto (tgt := 20) hx hb dX5_line_43 (by decide) ?_
            exact ih5 _ ho5 _ _ _ hw (lv_sub hl [1, 0] rfl)
    exact hL5 FUEL _ ho5 _ _ _ hw (lv_sub hl [1, 0] rfl)
  refine lv_icmp_ne (tgt := 13) hx hb dX5_line_6 (by decide) (fun c3 => ?_) (fun c3 => ?_)
  · refine lv_iconst (v := iI 0) hx hb dX5_line_13 rfl ?_
    rw [if_neg c3] at hJ2
    exact hJ2
  · refine lv_iconst (v := iI 1) hx hb dX5_line_9 rfl ?_
    refine lv_goto (tgt := 14) hx hb dX5_line_10 (by decide) ?_
    rw [if_pos c3] at hJ2
    exact hJ2
theorem hdX1_in : yX1_in.cls = RX1 ∧ yX1_in.cls ≠ "java/lang/invoke/MethodHandle" ∧ yX1_in.cls ≠ "java/lang/invoke/VarHandle" ∧ (parseMethodDescriptor yX1_in.desc).map (fun d => d.parameters.length) = some 1 := by decide +kernel
theorem ckX1_in {h : Hp} {a0 : Nat} {x1 : Int32} {res : Int32} (hf : fX1_in h a0 x1 = some res) : ep_cls h a0 = some 1 := by
  unfold fX1_in at hf
  exact (oi_c hf).1
abbrev wX1_in (p : Program) (l : Launch) (e : Env) (s : State) (m : MethodId) (below : List Frame) (meth : Method) (c : Code) (G : EG) (h : Hp) (a0 : Nat) (x1 : Int32) (res : Int32) (k9 n9 : Nat) (H : Heap) (locs : List Loc) (g : JFrame) : Prop := W p l e (headSpec (ws_ yX1_in cX1_in 4 (some .int)) ({ frames := 0, cells := 0, slots := 0, locals := 0 } : Room)).room s m ([.ref a0, .int x1] : List Value).toArray below meth c H locs k9 n9 (MQ below (ep_Qi G ep_cl h res) ([.ref a0, .int x1] : List Value).toArray s 0 0 (ep_A G)) g
set_option maxHeartbeats 4000000 in
theorem metX1_in (l : Launch) (G : EG) (h : Hp) (a0 : Nat) (x1 : Int32) {res : Int32} (hf : fX1_in h a0 x1 = some res) : Met l yX1_in (ws_ yX1_in cX1_in 4 (some .int)) ({ frames := 0, cells := 0, slots := 0, locals := 0 } : Room) (ep_Pc G ep_cl h [.ref a0, .int x1]) (ep_Qi G ep_cl h res) 0 0 (ep_A G) := by
  refine Met.ofW (cc := cX1_in) (maxL := 4) (ret := (some .int)) (by decide) rfl ?_
  intro p e s m args below meth c s₁ B hml hv
  obtain ⟨rfl, hR, hK, hZ⟩ := hv
  have hx := B.exec
  have hb := B.bytes
  have hr := B.returns
  have hlocks := B.notSynchronized
  have hts := atoms_spec (ws := (ws_ yX1_in cX1_in 4 (some .int))) B.pre
  have hts : ∀ w ∈ lw_all, w.before _ s = true := fun w h => hts w (List.mem_cons_of_mem _ h)
  have hown : s.vm.findClass RX1 = some m.cls := findClass_of_methodNamed B.named
  have hw : ep_W G ep_cl h s s.heap [] := ⟨hR, va_S.rf⟩
  have hl := lv_entry ([.ref a0, .int x1]) (n := 4) (Nat.le_of_ble_eq_true rfl)
  rw [lg_entry_eq]
  generalize (lg_sl ([.ref a0, .int x1]) ++ List.replicate (4 - (lg_sl ([.ref a0, .int x1])).length) Slot.unset).toArray = ls at hl ⊢
  have hl : lv_has ls 4 [(0, .ref a0), (1, .int x1)] := hl
  unfold fX1_in at hf
  have hf := (oi_c hf).2
  show wX1_in p l e s m below meth c G h a0 x1 res 0 0 s.heap ([]) (F0 m 0 ls [])
  refine lv_iconst (v := iI 0) hx hb dX1_in_0 rfl ?_
  refine lv_istore_n (lv' := [(2, .int (iI 0)), (0, .ref a0), (1, .int x1)]) hx hb dX1_in_1 rfl hl (by decide) rfl (fun ls hl => ?_)
  refine lv_iconst (v := iI 0) hx hb dX1_in_2 rfl ?_
  refine lv_istore_n (lv' := [(3, .int (iI 0)), (2, .int (iI 0)), (0, .ref a0), (1, .int x1)]) hx hb dX1_in_3 rfl hl (by decide) rfl (fun ls hl => ?_)
  obtain ⟨o1, ho1, hf⟩ := ob_s hf
  have hJ1 : ∀ (H : Heap) (locs : List Loc) (ls : Array Slot), ep_W G ep_cl h s H locs → lv_has ls 4 [(2, .int o1)] → wX1_in p l e s m below meth c G h a0 x1 res 0 0 H locs (F0 m 38 ls []) := by
    intro H locs ls hw hl
    refine lv_iload_n hx hb dX1_in_38 rfl (lv_at hl 0 rfl) ?_
    exact ep_retiR hx hb hr hlocks hw hf dX1_in_39
  have hL1 : ∀ (fu : Nat) (x2 : Int32) (x3 : Int32), fX1_in_L4 h a0 x1 fu x2 x3 = some o1 → ∀ (H : Heap) (locs : List Loc) (ls : Array Slot), ep_W G ep_cl h s H locs → lv_has ls 4 [(0, .ref a0), (1, .int x1), (2, .int x2), (3, .int x3)] → wX1_in p l e s m below meth c G h a0 x1 res 0 0 H locs (F0 m 4 ls []) := by
    intro fu
    induction fu with
    | zero => intro x2 x3 ho1; cases ho1
    | succ fu ih1 =>
      intro x2 x3 ho1 H locs ls hw hl
      rw [fX1_in_L4] at ho1
      refine lv_iload_n hx hb dX1_in_4 rfl (lv_at hl 3 rfl) ?_
      refine lv_aload_n hx hb dX1_in_5 rfl (lv_at hl 0 rfl) ?_
      obtain ⟨v2, ev2, ho1⟩ := ob_s ho1
      refine ep_get (C := RX1) (T := TX1) (N := 11) (ci := 1) hx hb hts in_X1 hown hK hw rfl 7 (by decide) q166 (gI_f ev2) dX1_in_6 ?_
      refine lv_icmp_ge (tgt := 38) hx hb dX1_in_9 (by decide) (fun c3 => ?_) (fun c3 => ?_)
      · have ho1 := oi_t ho1 c3
        obtain rfl := Option.some.inj ho1
        exact hJ1 _ _ _ hw (lv_sub hl [2] rfl)
      · have ho1 := oi_f ho1 c3
        refine lv_iload_n hx hb dX1_in_12 rfl (lv_at hl 2 rfl) ?_
        refine lv_aload_n hx hb dX1_in_13 rfl (lv_at hl 0 rfl) ?_
        obtain ⟨r4, er4, ho1⟩ := ob_s ho1
        refine ep_get (C := RX1) (T := TX1) (N := 11) (ci := 1) hx hb hts in_X1 hown hK hw rfl 6 (by decide) q163 (gR_f er4) dX1_in_14 ?_
        refine lv_iload_n hx hb dX1_in_17 rfl (lv_at hl 3 rfl) ?_
        obtain ⟨v5, ev5, ho1⟩ := ob_s ho1
        refine ep_iald hx hb hK hw ev5 dX1_in_18 ?_
        refine lv_iload_n hx hb dX1_in_19 rfl (lv_at hl 1 rfl) ?_
        have hJ6 : wX1_in p l e s m below meth c G h a0 x1 res 0 0 H locs (F0 m 30 ls [.int (if v5 = x1 then ((iI 1) <<< (x3 &&& 31)) else iI 0), .int x2]) := by
          refine lv_ior hx hb dX1_in_30 ?_
          refine lv_istore_n (lv' := [(2, .int (x2 ||| (if v5 = x1 then ((iI 1) <<< (x3 &&& 31)) else iI 0))), (0, .ref a0), (1, .int x1), (3, .int x3)]) hx hb dX1_in_31 rfl hl (by decide) rfl (fun ls hl => ?_)
          refine lv_iinc (v := (x3 + iI 1)) (lv' := [(3, .int (x3 + iI 1)), (2, .int (x2 ||| (if v5 = x1 then ((iI 1) <<< (x3 &&& 31)) else iI 0))), (0, .ref a0), (1, .int x1)]) hx hb dX1_in_32 hl (k := 3) rfl rfl (by decide) rfl (fun ls hl => ?_)
          refine lv_goto (tgt := 4) hx hb dX1_in_35 (by decide) ?_
          exact ih1 _ _ ho1 _ _ _ hw (lv_sub hl [2, 3, 1, 0] rfl)
        refine lv_icmp_ne (tgt := 29) hx hb dX1_in_20 (by decide) (fun c7 => ?_) (fun c7 => ?_)
        · refine lv_iconst (v := iI 0) hx hb dX1_in_29 rfl ?_
          rw [if_neg c7] at hJ6
          exact hJ6
        · refine lv_iconst (v := iI 1) hx hb dX1_in_23 rfl ?_
          refine lv_iload_n hx hb dX1_in_24 rfl (lv_at hl 3 rfl) ?_
          refine lv_ishl hx hb dX1_in_25 ?_
          refine lv_goto (tgt := 30) hx hb dX1_in_26 (by decide) ?_
          rw [if_pos c7] at hJ6
          exact hJ6
  exact hL1 FUEL _ _ ho1 _ _ _ hw (lv_sub hl [2, 3, 1, 0] rfl)
theorem hsJ9_bitCount : yJ9_bitCount.cls ≠ "java/lang/invoke/MethodHandle" ∧ yJ9_bitCount.cls ≠ "java/lang/invoke/VarHandle" ∧ (parseMethodDescriptor yJ9_bitCount.desc).map (fun d => d.parameters.length) = some 1 := by decide +kernel
abbrev wJ9_bitCount (p : Program) (l : Launch) (e : Env) (s : State) (m : MethodId) (below : List Frame) (meth : Method) (c : Code) (G : EG) (h : Hp) (x0 : Int32) (res : Int32) (k9 n9 : Nat) (H : Heap) (locs : List Loc) (g : JFrame) : Prop := W p l e (headSpec (ws_ yJ9_bitCount cJ9_bitCount 1 (some .int)) ({ frames := 0, cells := 0, slots := 0, locals := 0 } : Room)).room s m ([.int x0] : List Value).toArray below meth c H locs k9 n9 (MQ below (ep_Qi G ep_cl h res) ([.int x0] : List Value).toArray s 0 0 (ep_A G)) g
set_option maxHeartbeats 4000000 in
theorem metJ9_bitCount (l : Launch) (G : EG) (h : Hp) (x0 : Int32) {res : Int32} (hf : fJ9_bitCount x0 = some res) : Met l yJ9_bitCount (ws_ yJ9_bitCount cJ9_bitCount 1 (some .int)) ({ frames := 0, cells := 0, slots := 0, locals := 0 } : Room) (ep_Pc G ep_cl h [.int x0]) (ep_Qi G ep_cl h res) 0 0 (ep_A G) := by
  refine Met.ofW (cc := cJ9_bitCount) (maxL := 1) (ret := (some .int)) (by decide) rfl ?_
  intro p e s m args below meth c s₁ B hml hv
  obtain ⟨rfl, hR, hK, hZ⟩ := hv
  have hx := B.exec
  have hb := B.bytes
  have hr := B.returns
  have hlocks := B.notSynchronized
  have hts := atoms_spec (ws := (ws_ yJ9_bitCount cJ9_bitCount 1 (some .int))) B.pre
  have hts : ∀ w ∈ lw_all, w.before _ s = true := fun w h => hts w (List.mem_cons_of_mem _ h)
  have hown : s.vm.findClass RJ9 = some m.cls := findClass_of_methodNamed B.named
  have hw : ep_W G ep_cl h s s.heap [] := ⟨hR, va_S.rf⟩
  have hl := lv_entry ([.int x0]) (n := 1) (Nat.le_of_ble_eq_true rfl)
  rw [lg_entry_eq]
  generalize (lg_sl ([.int x0]) ++ List.replicate (1 - (lg_sl ([.int x0])).length) Slot.unset).toArray = ls at hl ⊢
  have hl : lv_has ls 1 [(0, .int x0)] := hl
  unfold fJ9_bitCount at hf
  show wJ9_bitCount p l e s m below meth c G h x0 res 0 0 s.heap ([]) (F0 m 0 ls [])
  refine lv_iload_n hx hb dJ9_bitCount_0 rfl (lv_at hl 0 rfl) ?_
  refine lv_iload_n hx hb dJ9_bitCount_1 rfl (lv_at hl 0 rfl) ?_
  refine lv_iconst (v := iI 1) hx hb dJ9_bitCount_2 rfl ?_
  refine lv_iushr (v := ((x0.toUInt32 >>> ((iI 1).toUInt32 &&& Int32.toUInt32 31)).toInt32)) hx hb dJ9_bitCount_3 rfl ?_
  refine lv_ldcw (v := (1431655765 : Int32)) hx hb hown (hts _ q532) dJ9_bitCount_4 ?_
  refine lv_iand hx hb dJ9_bitCount_7 ?_
  refine lv_isub hx hb dJ9_bitCount_8 ?_
  refine lv_topi (fun x_1 ex_1 => ?_)
  have hf := nmI_s hf x_1 ex_1
  refine lv_istore_n (lv' := [(0, .int x_1)]) hx hb dJ9_bitCount_9 rfl hl (by decide) rfl (fun ls hl => ?_)
  refine lv_iload_n hx hb dJ9_bitCount_10 rfl (lv_at hl 0 rfl) ?_
  refine lv_ldcw (v := (858993459 : Int32)) hx hb hown (hts _ q533) dJ9_bitCount_11 ?_
  refine lv_iand hx hb dJ9_bitCount_14 ?_
  refine lv_iload_n hx hb dJ9_bitCount_15 rfl (lv_at hl 0 rfl) ?_
  refine lv_iconst (v := iI 2) hx hb dJ9_bitCount_16 rfl ?_
  refine lv_iushr (v := ((x_1.toUInt32 >>> ((iI 2).toUInt32 &&& Int32.toUInt32 31)).toInt32)) hx hb dJ9_bitCount_17 rfl ?_
  refine lv_ldcw (v := (858993459 : Int32)) hx hb hown (hts _ q533) dJ9_bitCount_18 ?_
  refine lv_iand hx hb dJ9_bitCount_21 ?_
  refine lv_iadd hx hb dJ9_bitCount_22 ?_
  refine lv_topi (fun x_2 ex_2 => ?_)
  have hf := nmI_s hf x_2 ex_2
  refine lv_istore_n (lv' := [(0, .int x_2)]) hx hb dJ9_bitCount_23 rfl hl (by decide) rfl (fun ls hl => ?_)
  refine lv_iload_n hx hb dJ9_bitCount_24 rfl (lv_at hl 0 rfl) ?_
  refine lv_iload_n hx hb dJ9_bitCount_25 rfl (lv_at hl 0 rfl) ?_
  refine lv_iconst (v := iI 4) hx hb dJ9_bitCount_26 rfl ?_
  refine lv_iushr (v := ((x_2.toUInt32 >>> ((iI 4).toUInt32 &&& Int32.toUInt32 31)).toInt32)) hx hb dJ9_bitCount_27 rfl ?_
  refine lv_iadd hx hb dJ9_bitCount_28 ?_
  refine lv_ldcw (v := (252645135 : Int32)) hx hb hown (hts _ q534) dJ9_bitCount_29 ?_
  refine lv_iand hx hb dJ9_bitCount_32 ?_
  refine lv_topi (fun x_3 ex_3 => ?_)
  have hf := nmI_s hf x_3 ex_3
  refine lv_istore_n (lv' := [(0, .int x_3)]) hx hb dJ9_bitCount_33 rfl hl (by decide) rfl (fun ls hl => ?_)
  refine lv_iload_n hx hb dJ9_bitCount_34 rfl (lv_at hl 0 rfl) ?_
  refine lv_iload_n hx hb dJ9_bitCount_35 rfl (lv_at hl 0 rfl) ?_
  refine lv_bipush (v := iI 8) hx hb dJ9_bitCount_36 (by decide) ?_
  refine lv_iushr (v := ((x_3.toUInt32 >>> ((iI 8).toUInt32 &&& Int32.toUInt32 31)).toInt32)) hx hb dJ9_bitCount_38 rfl ?_
  refine lv_iadd hx hb dJ9_bitCount_39 ?_
  refine lv_topi (fun x_4 ex_4 => ?_)
  have hf := nmI_s hf x_4 ex_4
  refine lv_istore_n (lv' := [(0, .int x_4)]) hx hb dJ9_bitCount_40 rfl hl (by decide) rfl (fun ls hl => ?_)
  refine lv_iload_n hx hb dJ9_bitCount_41 rfl (lv_at hl 0 rfl) ?_
  refine lv_iload_n hx hb dJ9_bitCount_42 rfl (lv_at hl 0 rfl) ?_
  refine lv_bipush (v := iI 16) hx hb dJ9_bitCount_43 (by decide) ?_
  refine lv_iushr (v := ((x_4.toUInt32 >>> ((iI 16).toUInt32 &&& Int32.toUInt32 31)).toInt32)) hx hb dJ9_bitCount_45 rfl ?_
  refine lv_iadd hx hb dJ9_bitCount_46 ?_
  refine lv_topi (fun x_5 ex_5 => ?_)
  have hf := nmI_s hf x_5 ex_5
  refine lv_istore_n (lv' := [(0, .int x_5)]) hx hb dJ9_bitCount_47 rfl hl (by decide) rfl (fun ls hl => ?_)
  refine lv_iload_n hx hb dJ9_bitCount_48 rfl (lv_at hl 0 rfl) ?_
  refine lv_bipush (v := iI 63) hx hb dJ9_bitCount_49 (by decide) ?_
  refine lv_iand hx hb dJ9_bitCount_51 ?_
  exact ep_retiR hx hb hr hlocks hw hf dJ9_bitCount_52
theorem hdX5_all : yX5_all.cls = RX5 ∧ yX5_all.cls ≠ "java/lang/invoke/MethodHandle" ∧ yX5_all.cls ≠ "java/lang/invoke/VarHandle" ∧ (parseMethodDescriptor yX5_all.desc).map (fun d => d.parameters.length) = some 0 := by decide +kernel
theorem ckX5_all {h : Hp} {a0 : Nat} {res : Thr ⊕ (Hp)} (hf : fX5_all h a0 = some res) : ep_cls h a0 = some 5 := by
  unfold fX5_all at hf
  exact (oi_c hf).1
abbrev wX5_all (p : Program) (l : Launch) (e : Env) (s : State) (m : MethodId) (below : List Frame) (meth : Method) (c : Code) (G : EG) (h : Hp) (a0 : Nat) (res : Hp) (k9 n9 : Nat) (H : Heap) (locs : List Loc) (g : JFrame) : Prop := W p l e (headSpec (ws_ yX5_all cX5_all 2 none) ({ frames := 11, cells := 32, slots := 144, locals := 246 } : Room)).room s m ([.ref a0] : List Value).toArray below meth c H locs k9 n9 (MQ below (ep_Qv G ep_cl res) ([.ref a0] : List Value).toArray s 32 144 (ep_A G)) g
set_option maxHeartbeats 4000000 in
theorem metX5_all (l : Launch) (G : EG) (h : Hp) (a0 : Nat) {res : Hp} (hf : fX5_all h a0 = some (.inr res)) : Met l yX5_all (ws_ yX5_all cX5_all 2 none) ({ frames := 11, cells := 32, slots := 144, locals := 246 } : Room) (ep_Pc G ep_cl h [.ref a0]) (ep_Qv G ep_cl res) 32 144 (ep_A G) := by
  refine Met.ofW (cc := cX5_all) (maxL := 2) (ret := none) (by decide) rfl ?_
  intro p e s m args below meth c s₁ B hml hv
  obtain ⟨rfl, hR, hK, hZ⟩ := hv
  have hx := B.exec
  have hb := B.bytes
  have hr := B.returns
  have hlocks := B.notSynchronized
  have hts := atoms_spec (ws := (ws_ yX5_all cX5_all 2 none)) B.pre
  have hts : ∀ w ∈ lw_all, w.before _ s = true := fun w h => hts w (List.mem_cons_of_mem _ h)
  have hown : s.vm.findClass RX5 = some m.cls := findClass_of_methodNamed B.named
  have hw : ep_W G ep_cl h s s.heap [] := ⟨hR, va_S.rf⟩
  have hl := lv_entry ([.ref a0]) (n := 2) (Nat.le_of_ble_eq_true rfl)
  rw [lg_entry_eq]
  generalize (lg_sl ([.ref a0]) ++ List.replicate (2 - (lg_sl ([.ref a0])).length) Slot.unset).toArray = ls at hl ⊢
  have hl : lv_has ls 2 [(0, .ref a0)] := hl
  unfold fX5_all at hf
  have hf := (oi_c hf).2
  show wX5_all p l e s m below meth c G h a0 res 0 0 s.heap ([]) (F0 m 0 ls [])
  obtain ⟨ox1, ho1, hk1⟩ := orL_s hf
  have hT1 : ∀ r, ox1 = .inl r → some r = some (.inr res) := fun r eo => (by have e := orL_1 hk1 eo; exact e)
  have hJ1 : ∀ o1, ox1 = .inr o1 → ∀ (H : Heap) (locs : List Loc) (ls : Array Slot), ep_W G ep_cl o1 s H locs → lv_has ls 2 [(0, .ref a0)] → wX5_all p l e s m below meth c G h a0 res 32 144 H locs (F0 m 14 ls []) := by
    intro o1 eo H locs ls hw hl
    have hf := orL_2 hk1 eo
    refine lv_aload_n hx hb dX5_all_14 rfl (lv_at hl 0 rfl) ?_
    refine lv_aload_n hx hb dX5_all_15 rfl (lv_at hl 0 rfl) ?_
    obtain ⟨v8, ev8, hf⟩ := ob_s hf
    refine ep_get (C := RX5) (T := TX5) (N := 11) (ci := 5) hx hb hts in_X5 hown hK hw rfl 5 (by decide) q317 (gI_f ev8) dX5_all_16 ?_
    refine lv_aload_n hx hb dX5_all_19 rfl (lv_at hl 0 rfl) ?_
    obtain ⟨v9, ev9, hf⟩ := ob_s hf
    refine ep_get (C := RX5) (T := TX5) (N := 11) (ci := 5) hx hb hts in_X5 hown hK hw rfl 3 (by decide) q314 (gI_f ev9) dX5_all_20 ?_
    have hJ10 : wX5_all p l e s m below meth c G h a0 res 32 144 H locs (F0 m 31 ls [.int (if v9 ≤ v8 then iI 0 else iI 1), .ref a0]) := by
      refine lv_bipush (v := iI 6) hx hb dX5_all_31 (by decide) ?_
      obtain ⟨zo12, eo12, hko12⟩ := orL_s hf
      rcases zo12 with xo12 | o12
      · have hf := orL_1 hko12 rfl
        cases hf
      have hf := orL_2 hko12 rfl
      refine ep_callv0 (va_runV (As := [.int (if v9 ≤ v8 then iI 0 else iI 1), .int (iI 6)]) (rest := []) ⟨hx, hb, hml, hown, hts⟩ (metX5_must l G o1 a0 (if v9 ≤ v8 then iI 0 else iI 1) (iI 6) eo12) (cwV 2 hts (lw_V q215 q217 qs2 q91 q218) rfl rfl rfl hdX5_must ⟨Nat.le_of_ble_eq_true rfl, Nat.le_of_ble_eq_true rfl⟩) (ep_preV hK hZ hw rfl (ckX5_must eo12)) rfl rfl hl.1 rfl (lv_room (Nat.le_of_ble_eq_true rfl)) dX5_all_33 ⟨Nat.le_of_ble_eq_true rfl, Nat.le_of_ble_eq_true rfl⟩) hw (fun H locs hw => ?_)
      refine lv_iconst (v := iI 0) hx hb dX5_all_36 rfl ?_
      refine lv_istore_n (lv' := [(1, .int (iI 0)), (0, .ref a0)]) hx hb dX5_all_37 rfl hl (by decide) rfl (fun ls hl => ?_)
      obtain ⟨ox13, ho13, hk13⟩ := orL_s hf
      have hT13 : ∀ r, ox13 = .inl r → some r = some (.inr res) := fun r eo => (by have e := orL_1 hk13 eo; exact e)
      have hJ13 : ∀ o13, ox13 = .inr o13 → ∀ (H : Heap) (locs : List Loc) (ls : Array Slot), ep_W G ep_cl o13 s H locs → lv_has ls 2 [] → wX5_all p l e s m below meth c G h a0 res 32 144 H locs (F0 m 75 ls []) := by
        intro o13 eo H locs ls hw hl
        have hf := orL_2 hk13 eo
        exact ep_retvW hx hb hr hlocks hw (sm_r hf) dX5_all_75
      have hL13 : ∀ (fu : Nat) (h : Hp) (x1 : Int32), fX5_all_L38 a0 fu h x1 = some ox13 → ∀ (H : Heap) (locs : List Loc) (ls : Array Slot), ep_W G ep_cl h s H locs → lv_has ls 2 [(0, .ref a0), (1, .int x1)] → wX5_all p l e s m below meth c G h a0 res 32 144 H locs (F0 m 38 ls []) := by
        intro fu
        induction fu with
        | zero => intro h x1 ho13; cases ho13
        | succ fu ih13 =>
          intro h x1 ho13 H locs ls hw hl
          rw [fX5_all_L38] at ho13
          refine lv_iload_n hx hb dX5_all_38 rfl (lv_at hl 1 rfl) ?_
          refine lv_iconst (v := iI 4) hx hb dX5_all_39 rfl ?_
          refine lv_icmp_ge (tgt := 75) hx hb dX5_all_40 (by decide) (fun c14 => ?_) (fun c14 => ?_)
          · have ho13 := oi_t ho13 c14
            exact hJ13 _ (Option.some.inj ho13).symm _ _ _ hw (lv_sub hl [] rfl)
          · have ho13 := oi_f ho13 c14
            refine lv_aload_n hx hb dX5_all_43 rfl (lv_at hl 0 rfl) ?_
            refine lv_aload_n hx hb dX5_all_44 rfl (lv_at hl 0 rfl) ?_
            obtain ⟨r15, er15, ho13⟩ := ob_s ho13
            refine ep_get (C := RX5) (T := TX5) (N := 11) (ci := 5) hx hb hts in_X5 hown hK hw rfl 1 (by decide) q309 (gR_f er15) dX5_all_45 ?_
            refine lv_iload_n hx hb dX5_all_48 rfl (lv_at hl 1 rfl) ?_
            obtain ⟨v16, ev16, ho13⟩ := ob_s ho13
            refine ep_calli0 (va_runV (As := [.int x1]) (rest := [.ref a0]) ⟨hx, hb, hml, hown, hts⟩ (metX1_in l G h r15 x1 ev16) (cwV 1 hts (lw_V q525 q526 q527 q86 q528) rfl rfl rfl hdX1_in ⟨Nat.le_of_ble_eq_true rfl, Nat.le_of_ble_eq_true rfl⟩) (ep_preV hK hZ hw rfl (ckX1_in ev16)) rfl rfl hl.1 rfl (lv_room (Nat.le_of_ble_eq_true rfl)) dX5_all_49 ⟨Nat.le_of_ble_eq_true rfl, Nat.le_of_ble_eq_true rfl⟩) hw (fun H locs hw => ?_)
            obtain ⟨v17, ev17, ho13⟩ := ob_s ho13
            refine ep_calli0 (va_runS (As := [.int v16]) (rest := [.ref a0]) ⟨hx, hb, hml, hown, hts⟩ (metJ9_bitCount l G h v16 ev17) (va_cwS 1 hts (lw_S q529 q530 q103 q531) rfl rfl rfl hsJ9_bitCount ⟨Nat.le_of_ble_eq_true rfl, Nat.le_of_ble_eq_true rfl⟩) (ep_preS hK hZ hw) rfl rfl hl.1 rfl (lv_room (Nat.le_of_ble_eq_true rfl)) dX5_all_52 ⟨Nat.le_of_ble_eq_true rfl, Nat.le_of_ble_eq_true rfl⟩) hw (fun H locs hw => ?_)
            refine lv_iconst (v := iI 3) hx hb dX5_all_55 rfl ?_
            have hJ18 : wX5_all p l e s m below meth c G h a0 res 32 144 H locs (F0 m 64 ls [.int (if (iI 3) < v17 then iI 0 else iI 1), .ref a0]) := by
              refine lv_bipush (v := iI 7) hx hb dX5_all_64 (by decide) ?_
              obtain ⟨zo20, eo20, hko20⟩ := orL_s ho13
              rcases zo20 with xo20 | o20
              · have ho13 := orL_1 hko20 rfl
                cases hT13 _ (Option.some.inj ho13).symm
              have ho13 := orL_2 hko20 rfl
              refine ep_callv0 (va_runV (As := [.int (if (iI 3) < v17 then iI 0 else iI 1), .int (iI 7)]) (rest := []) ⟨hx, hb, hml, hown, hts⟩ (metX5_must l G h a0 (if (iI 3) < v17 then iI 0 else iI 1) (iI 7) eo20) (cwV 2 hts (lw_V q215 q217 qs2 q91 q218) rfl rfl rfl hdX5_must ⟨Nat.le_of_ble_eq_true rfl, Nat.le_of_ble_eq_true rfl⟩) (ep_preV hK hZ hw rfl (ckX5_must eo20)) rfl rfl hl.1 rfl (lv_room (Nat.le_of_ble_eq_true rfl)) dX5_all_66 ⟨Nat.le_of_ble_eq_true rfl, Nat.le_of_ble_eq_true rfl⟩) hw (fun H locs hw => ?_)
              refine lv_iinc (v := (x1 + iI 1)) (lv' := [(1, .int (x1 + iI 1)), (0, .ref a0)]) hx hb dX5_all_69 hl (k := 1) rfl rfl (by decide) rfl (fun ls hl => ?_)
              refine lv_goto (tgt := 38) hx hb dX5_all_72 (by decide) ?_
              exact ih13 _ _ ho13 _ _ _ hw (lv_sub hl [1, 0] rfl)
            refine lv_icmp_gt (tgt := 63) hx hb dX5_all_56 (by decide) (fun c19 => ?_) (fun c19 => ?_)
            · refine lv_iconst (v := iI 0) hx hb dX5_all_63 rfl ?_
              rw [if_pos c19] at hJ18
              exact hJ18
            · refine lv_iconst (v := iI 1) hx hb dX5_all_59 rfl ?_
              refine lv_goto (tgt := 64) hx hb dX5_all_60 (by decide) ?_
              rw [if_neg c19] at hJ18
              exact hJ18
      exact hL13 FUEL _ _ ho13 _ _ _ hw (lv_sub hl [1, 0] rfl)
    refine lv_icmp_ge (tgt := 30) hx hb dX5_all_23 (by decide) (fun c11 => ?_) (fun c11 => ?_)
    · refine lv_iconst (v := iI 0) hx hb dX5_all_30 rfl ?_
      rw [if_pos c11] at hJ10
      exact hJ10
    · refine lv_iconst (v := iI 1) hx hb dX5_all_26 rfl ?_
      refine lv_goto (tgt := 31) hx hb dX5_all_27 (by decide) ?_
      rw [if_neg c11] at hJ10
      exact hJ10
  have hL1 : ∀ (fu : Nat) (hfu : fu ≤ 16) (h : Hp), fX5_all_L0 a0 fu h = some ox1 → ∀ (H : Heap) (locs : List Loc) (ls : Array Slot), ep_W G ep_cl h s H locs → lv_has ls 2 [(0, .ref a0)] → wX5_all p l e s m below meth c G h a0 res (0 + (16 - fu) * 2) (0 + (16 - fu) * 9) H locs (F0 m 0 ls []) := by
    intro fu
    induction fu with
    | zero => intro hfu h ho1; cases ho1
    | succ fu ih1 =>
      intro hfu h ho1 H locs ls hw hl
      rw [fX5_all_L0] at ho1
      refine lv_aload_n hx hb dX5_all_0 rfl (lv_at hl 0 rfl) ?_
      obtain ⟨v5, ev5, ho1⟩ := ob_s ho1
      refine ep_get (C := RX5) (T := TX5) (N := 11) (ci := 5) hx hb hts in_X5 hown hK hw rfl 9 (by decide) q322 (gI_f ev5) dX5_all_1 ?_
      refine lv_if_eq (tgt := 14) hx hb dX5_all_4 (by decide) (fun c6 => ?_) (fun c6 => ?_)
      · have ho1 := oi_t ho1 c6
        refine W.widen (k := 32) (n := 144) (by omega) (by omega) ?_
        exact hJ1 _ (Option.some.inj ho1).symm _ _ _ hw (lv_sub hl [0] rfl)
      · have ho1 := oi_f ho1 c6
        refine lv_aload_n hx hb dX5_all_7 rfl (lv_at hl 0 rfl) ?_
        obtain ⟨zo7, eo7, hko7⟩ := orL_s ho1
        rcases zo7 with xo7 | o7
        · have ho1 := orL_1 hko7 rfl
          cases hT1 _ (Option.some.inj ho1).symm
        have ho1 := orL_2 hko7 rfl
        refine ep_callv (va_runV (As := []) (rest := []) ⟨hx, hb, hml, hown, hts⟩ (metX5_line l G h a0 eo7) (cwV 0 hts (lw_V q351 q353 qs5 q91 q354) rfl rfl rfl hdX5_line ⟨Nat.le_of_ble_eq_true rfl, Nat.le_of_ble_eq_true rfl⟩) (ep_preV hK hZ hw rfl (ckX5_line eo7)) rfl rfl hl.1 rfl (lv_room (Nat.le_of_ble_eq_true rfl)) dX5_all_8 ⟨by dsimp only [headSpec]; omega, by dsimp only [headSpec]; omega⟩) hw (fun H locs hw => ?_)
        refine lv_goto (tgt := 0) hx hb dX5_all_11 (by decide) ?_
        refine W.widen (k := 0 + (16 - fu) * 2) (n := 0 + (16 - fu) * 9) (by omega) (by omega) ?_
        exact ih1 (by omega) _ ho1 _ _ _ hw (lv_sub hl [0] rfl)
  exact hL1 16 (Nat.le_refl _) _ ho1 _ _ _ hw (lv_sub hl [0] rfl)
abbrev wTX5_all (p : Program) (l : Launch) (e : Env) (s : State) (m : MethodId) (below : List Frame) (meth : Method) (c : Code) (G : EG) (h : Hp) (a0 : Nat) (res : Thr) (k9 n9 : Nat) (H : Heap) (locs : List Loc) (g : JFrame) : Prop := W p l e (headSpec (ws_ yX5_all cX5_all 2 none) ({ frames := 11, cells := 35, slots := 161, locals := 246 } : Room)).room s m ([.ref a0] : List Value).toArray below meth c H locs k9 n9 (MQT below (ep_Qt G ep_cl res) ([.ref a0] : List Value).toArray s 35 161 (ep_A G)) g
set_option maxHeartbeats 4000000 in
theorem metTX5_all (l : Launch) (G : EG) (h : Hp) (a0 : Nat) {res : Thr} (hf : fX5_all h a0 = some (.inl res)) : MetT l yX5_all (ws_ yX5_all cX5_all 2 none) ({ frames := 11, cells := 35, slots := 161, locals := 246 } : Room) (ep_Pc G ep_cl h [.ref a0]) (ep_Qt G ep_cl res) 35 161 (ep_A G) := by
  refine MetT.ofW (cc := cX5_all) (maxL := 2) (ret := none) (by decide) rfl ?_
  intro p e s m args below meth c s₁ B hml hv
  obtain ⟨rfl, hR, hK, hZ⟩ := hv
  have hx := B.exec
  have hb := B.bytes
  have hr := B.returns
  have hlocks := B.notSynchronized
  have hts := atoms_spec (ws := (ws_ yX5_all cX5_all 2 none)) B.pre
  have hno : c.exceptionTable.toList = [] := by
    have h := B.noHandlers (hts _ List.mem_cons_self)
    simpa using h
  have hts : ∀ w ∈ lw_all, w.before _ s = true := fun w h => hts w (List.mem_cons_of_mem _ h)
  have hown : s.vm.findClass RX5 = some m.cls := findClass_of_methodNamed B.named
  have hw : ep_W G ep_cl h s s.heap [] := ⟨hR, va_S.rf⟩
  have hl := lv_entry ([.ref a0]) (n := 2) (Nat.le_of_ble_eq_true rfl)
  rw [lg_entry_eq]
  generalize (lg_sl ([.ref a0]) ++ List.replicate (2 - (lg_sl ([.ref a0])).length) Slot.unset).toArray = ls at hl ⊢
  have hl : lv_has ls 2 [(0, .ref a0)] := hl
  unfold fX5_all at hf
  have hf := (oi_c hf).2
  show wTX5_all p l e s m below meth c G h a0 res 0 0 s.heap ([]) (F0 m 0 ls [])
  obtain ⟨ox1, ho1, hk1⟩ := orL_s hf
  have hT1 : ∀ r, ox1 = .inl r → some r = some (.inl res) := fun r eo => (by have e := orL_1 hk1 eo; exact e)
  have hJ1 : ∀ o1, ox1 = .inr o1 → ∀ (H : Heap) (locs : List Loc) (ls : Array Slot), ep_W G ep_cl o1 s H locs → lv_has ls 2 [(0, .ref a0)] → wTX5_all p l e s m below meth c G h a0 res 32 144 H locs (F0 m 14 ls []) := by
    intro o1 eo H locs ls hw hl
    have hf := orL_2 hk1 eo
    refine lv_aload_n hx hb dX5_all_14 rfl (lv_at hl 0 rfl) ?_
    refine lv_aload_n hx hb dX5_all_15 rfl (lv_at hl 0 rfl) ?_
    obtain ⟨v8, ev8, hf⟩ := ob_s hf
    refine ep_get (C := RX5) (T := TX5) (N := 11) (ci := 5) hx hb hts in_X5 hown hK hw rfl 5 (by decide) q317 (gI_f ev8) dX5_all_16 ?_
    refine lv_aload_n hx hb dX5_all_19 rfl (lv_at hl 0 rfl) ?_
    obtain ⟨v9, ev9, hf⟩ := ob_s hf
    refine ep_get (C := RX5) (T := TX5) (N := 11) (ci := 5) hx hb hts in_X5 hown hK hw rfl 3 (by decide) q314 (gI_f ev9) dX5_all_20 ?_
    have hJ10 : wTX5_all p l e s m below meth c G h a0 res 32 144 H locs (F0 m 31 ls [.int (if v9 ≤ v8 then iI 0 else iI 1), .ref a0]) := by
      refine lv_bipush (v := iI 6) hx hb dX5_all_31 (by decide) ?_
      obtain ⟨zo12, eo12, hko12⟩ := orL_s hf
      rcases zo12 with xo12 | o12
      · have hf := orL_1 hko12 rfl
        refine W.widen (k := 34) (n := 153) (Nat.le_of_ble_eq_true rfl) (Nat.le_of_ble_eq_true rfl) ?_
        exact ep_outT' hno hlocks (ep_runVT (As := [.int (if v9 ≤ v8 then iI 0 else iI 1), .int (iI 6)]) (rest := []) ⟨hx, hb, hml, hown, hts⟩ (metTX5_must l G o1 a0 (if v9 ≤ v8 then iI 0 else iI 1) (iI 6) eo12) (cwV 2 hts (lw_V q215 q217 qs2 q91 q218) rfl rfl rfl hdX5_must ⟨Nat.le_of_ble_eq_true rfl, Nat.le_of_ble_eq_true rfl⟩) (ep_preV hK hZ hw rfl (ckX5_must eo12)) rfl rfl hl.1 rfl (lv_room (Nat.le_of_ble_eq_true rfl)) dX5_all_33 ⟨Nat.le_of_ble_eq_true rfl, Nat.le_of_ble_eq_true rfl⟩) hw hf
      have hf := orL_2 hko12 rfl
      refine ep_callv0 (va_runV (As := [.int (if v9 ≤ v8 then iI 0 else iI 1), .int (iI 6)]) (rest := []) ⟨hx, hb, hml, hown, hts⟩ (metX5_must l G o1 a0 (if v9 ≤ v8 then iI 0 else iI 1) (iI 6) eo12) (cwV 2 hts (lw_V q215 q217 qs2 q91 q218) rfl rfl rfl hdX5_must ⟨Nat.le_of_ble_eq_true rfl, Nat.le_of_ble_eq_true rfl⟩) (ep_preV hK hZ hw rfl (ckX5_must eo12)) rfl rfl hl.1 rfl (lv_room (Nat.le_of_ble_eq_true rfl)) dX5_all_33 ⟨Nat.le_of_ble_eq_true rfl, Nat.le_of_ble_eq_true rfl⟩) hw (fun H locs hw => ?_)
      refine lv_iconst (v := iI 0) hx hb dX5_all_36 rfl ?_
      refine lv_istore_n (lv' := [(1, .int (iI 0)), (0, .ref a0)]) hx hb dX5_all_37 rfl hl (by decide) rfl (fun ls hl => ?_)
      obtain ⟨ox13, ho13, hk13⟩ := orL_s hf
      have hT13 : ∀ r, ox13 = .inl r → some r = some (.inl res) := fun r eo => (by have e := orL_1 hk13 eo; exact e)
      have hJ13 : ∀ o13, ox13 = .inr o13 → ∀ (H : Heap) (locs : List Loc) (ls : Array Slot), ep_W G ep_cl o13 s H locs → lv_has ls 2 [] → wTX5_all p l e s m below meth c G h a0 res 32 144 H locs (F0 m 75 ls []) := by
        intro o13 eo H locs ls hw hl
        have hf := orL_2 hk13 eo
        cases hf
      have hL13 : ∀ (fu : Nat) (h : Hp) (x1 : Int32), fX5_all_L38 a0 fu h x1 = some ox13 → ∀ (H : Heap) (locs : List Loc) (ls : Array Slot), ep_W G ep_cl h s H locs → lv_has ls 2 [(0, .ref a0), (1, .int x1)] → wTX5_all p l e s m below meth c G h a0 res 32 144 H locs (F0 m 38 ls []) := by
        intro fu
        induction fu with
        | zero => intro h x1 ho13; cases ho13
        | succ fu ih13 =>
          intro h x1 ho13 H locs ls hw hl
          rw [fX5_all_L38] at ho13
          refine lv_iload_n hx hb dX5_all_38 rfl (lv_at hl 1 rfl) ?_
          refine lv_iconst (v := iI 4) hx hb dX5_all_39 rfl ?_
          refine lv_icmp_ge (tgt := 75) hx hb dX5_all_40 (by decide) (fun c14 => ?_) (fun c14 => ?_)
          · have ho13 := oi_t ho13 c14
            exact hJ13 _ (Option.some.inj ho13).symm _ _ _ hw (lv_sub hl [] rfl)
          · have ho13 := oi_f ho13 c14
            refine lv_aload_n hx hb dX5_all_43 rfl (lv_at hl 0 rfl) ?_
            refine lv_aload_n hx hb dX5_all_44 rfl (lv_at hl 0 rfl) ?_
            obtain ⟨r15, er15, ho13⟩ := ob_s ho13
            refine ep_get (C := RX5) (T := TX5) (N := 11) (ci := 5) hx hb hts in_X5 hown hK hw rfl 1 (by decide) q309 (gR_f er15) dX5_all_45 ?_
            refine lv_iload_n hx hb dX5_all_48 rfl (lv_at hl 1 rfl) ?_
            obtain ⟨v16, ev16, ho13⟩ := ob_s ho13
            refine ep_calli0 (va_runV (As := [.int x1]) (rest := [.ref a0]) ⟨hx, hb, hml, hown, hts⟩ (metX1_in l G h r15 x1 ev16) (cwV 1 hts (lw_V q525 q526 q527 q86 q528) rfl rfl rfl hdX1_in ⟨Nat.le_of_ble_eq_true rfl, Nat.le_of_ble_eq_true rfl⟩) (ep_preV hK hZ hw rfl (ckX1_in ev16)) rfl rfl hl.1 rfl (lv_room (Nat.le_of_ble_eq_true rfl)) dX5_all_49 ⟨Nat.le_of_ble_eq_true rfl, Nat.le_of_ble_eq_true rfl⟩) hw (fun H locs hw => ?_)
            obtain ⟨v17, ev17, ho13⟩ := ob_s ho13
            refine ep_calli0 (va_runS (As := [.int v16]) (rest := [.ref a0]) ⟨hx, hb, hml, hown, hts⟩ (metJ9_bitCount l G h v16 ev17) (va_cwS 1 hts (lw_S q529 q530 q103 q531) rfl rfl rfl hsJ9_bitCount ⟨Nat.le_of_ble_eq_true rfl, Nat.le_of_ble_eq_true rfl⟩) (ep_preS hK hZ hw) rfl rfl hl.1 rfl (lv_room (Nat.le_of_ble_eq_true rfl)) dX5_all_52 ⟨Nat.le_of_ble_eq_true rfl, Nat.le_of_ble_eq_true rfl⟩) hw (fun H locs hw => ?_)
            refine lv_iconst (v := iI 3) hx hb dX5_all_55 rfl ?_
            have hJ18 : wTX5_all p l e s m below meth c G h a0 res 32 144 H locs (F0 m 64 ls [.int (if (iI 3) < v17 then iI 0 else iI 1), .ref a0]) := by
              refine lv_bipush (v := iI 7) hx hb dX5_all_64 (by decide) ?_
              obtain ⟨zo20, eo20, hko20⟩ := orL_s ho13
              rcases zo20 with xo20 | o20
              · have ho13 := orL_1 hko20 rfl
                refine W.widen (k := 34) (n := 153) (Nat.le_of_ble_eq_true rfl) (Nat.le_of_ble_eq_true rfl) ?_
                exact ep_outT' hno hlocks (ep_runVT (As := [.int (if (iI 3) < v17 then iI 0 else iI 1), .int (iI 7)]) (rest := []) ⟨hx, hb, hml, hown, hts⟩ (metTX5_must l G h a0 (if (iI 3) < v17 then iI 0 else iI 1) (iI 7) eo20) (cwV 2 hts (lw_V q215 q217 qs2 q91 q218) rfl rfl rfl hdX5_must ⟨Nat.le_of_ble_eq_true rfl, Nat.le_of_ble_eq_true rfl⟩) (ep_preV hK hZ hw rfl (ckX5_must eo20)) rfl rfl hl.1 rfl (lv_room (Nat.le_of_ble_eq_true rfl)) dX5_all_66 ⟨Nat.le_of_ble_eq_true rfl, Nat.le_of_ble_eq_true rfl⟩) hw (hT13 _ (Option.some.inj ho13).symm)
              have ho13 := orL_2 hko20 rfl
              refine ep_callv0 (va_runV (As := [.int (if (iI 3) < v17 then iI 0 else iI 1), .int (iI 7)]) (rest := []) ⟨hx, hb, hml, hown, hts⟩ (metX5_must l G h a0 (if (iI 3) < v17 then iI 0 else iI 1) (iI 7) eo20) (cwV 2 hts (lw_V q215 q217 qs2 q91 q218) rfl rfl rfl hdX5_must ⟨Nat.le_of_ble_eq_true rfl, Nat.le_of_ble_eq_true rfl⟩) (ep_preV hK hZ hw rfl (ckX5_must eo20)) rfl rfl hl.1 rfl (lv_room (Nat.le_of_ble_eq_true rfl)) dX5_all_66 ⟨Nat.le_of_ble_eq_true rfl, Nat.le_of_ble_eq_true rfl⟩) hw (fun H locs hw => ?_)
              refine lv_iinc (v := (x1 + iI 1)) (lv' := [(1, .int (x1 + iI 1)), (0, .ref a0)]) hx hb dX5_all_69 hl (k := 1) rfl rfl (by decide) rfl (fun ls hl => ?_)
              refine lv_goto (tgt := 38) hx hb dX5_all_72 (by decide) ?_
              exact ih13 _ _ ho13 _ _ _ hw (lv_sub hl [1, 0] rfl)
            refine lv_icmp_gt (tgt := 63) hx hb dX5_all_56 (by decide) (fun c19 => ?_) (fun c19 => ?_)
            · refine lv_iconst (v := iI 0) hx hb dX5_all_63 rfl ?_
              rw [if_pos c19] at hJ18
              exact hJ18
            · refine lv_iconst (v := iI 1) hx hb dX5_all_59 rfl ?_
              refine lv_goto (tgt := 64) hx hb dX5_all_60 (by decide) ?_
              rw [if_neg c19] at hJ18
              exact hJ18
      exact hL13 FUEL _ _ ho13 _ _ _ hw (lv_sub hl [1, 0] rfl)
    refine lv_icmp_ge (tgt := 30) hx hb dX5_all_23 (by decide) (fun c11 => ?_) (fun c11 => ?_)
    · refine lv_iconst (v := iI 0) hx hb dX5_all_30 rfl ?_
      rw [if_pos c11] at hJ10
      exact hJ10
    · refine lv_iconst (v := iI 1) hx hb dX5_all_26 rfl ?_
      refine lv_goto (tgt := 31) hx hb dX5_all_27 (by decide) ?_
      rw [if_neg c11] at hJ10
      exact hJ10
  have hL1 : ∀ (fu : Nat) (hfu : fu ≤ 16) (h : Hp), fX5_all_L0 a0 fu h = some ox1 → ∀ (H : Heap) (locs : List Loc) (ls : Array Slot), ep_W G ep_cl h s H locs → lv_has ls 2 [(0, .ref a0)] → wTX5_all p l e s m below meth c G h a0 res (0 + (16 - fu) * 2) (0 + (16 - fu) * 9) H locs (F0 m 0 ls []) := by
    intro fu
    induction fu with
    | zero => intro hfu h ho1; cases ho1
    | succ fu ih1 =>
      intro hfu h ho1 H locs ls hw hl
      rw [fX5_all_L0] at ho1
      refine lv_aload_n hx hb dX5_all_0 rfl (lv_at hl 0 rfl) ?_
      obtain ⟨v5, ev5, ho1⟩ := ob_s ho1
      refine ep_get (C := RX5) (T := TX5) (N := 11) (ci := 5) hx hb hts in_X5 hown hK hw rfl 9 (by decide) q322 (gI_f ev5) dX5_all_1 ?_
      refine lv_if_eq (tgt := 14) hx hb dX5_all_4 (by decide) (fun c6 => ?_) (fun c6 => ?_)
      · have ho1 := oi_t ho1 c6
        refine W.widen (k := 32) (n := 144) (by omega) (by omega) ?_
        exact hJ1 _ (Option.some.inj ho1).symm _ _ _ hw (lv_sub hl [0] rfl)
      · have ho1 := oi_f ho1 c6
        refine lv_aload_n hx hb dX5_all_7 rfl (lv_at hl 0 rfl) ?_
        obtain ⟨zo7, eo7, hko7⟩ := orL_s ho1
        rcases zo7 with xo7 | o7
        · have ho1 := orL_1 hko7 rfl
          refine W.widen (k := 32) (n := 144) (by omega) (by omega) ?_
          exact ep_outT' hno hlocks (ep_runVT (As := []) (rest := []) ⟨hx, hb, hml, hown, hts⟩ (metTX5_line l G h a0 eo7) (cwV 0 hts (lw_V q351 q353 qs5 q91 q354) rfl rfl rfl hdX5_line ⟨Nat.le_of_ble_eq_true rfl, Nat.le_of_ble_eq_true rfl⟩) (ep_preV hK hZ hw rfl (ckX5_line eo7)) rfl rfl hl.1 rfl (lv_room (Nat.le_of_ble_eq_true rfl)) dX5_all_8 ⟨Nat.le_of_ble_eq_true rfl, Nat.le_of_ble_eq_true rfl⟩) hw (hT1 _ (Option.some.inj ho1).symm)
        have ho1 := orL_2 hko7 rfl
        refine ep_callv (va_runV (As := []) (rest := []) ⟨hx, hb, hml, hown, hts⟩ (metX5_line l G h a0 eo7) (cwV 0 hts (lw_V q351 q353 qs5 q91 q354) rfl rfl rfl hdX5_line ⟨Nat.le_of_ble_eq_true rfl, Nat.le_of_ble_eq_true rfl⟩) (ep_preV hK hZ hw rfl (ckX5_line eo7)) rfl rfl hl.1 rfl (lv_room (Nat.le_of_ble_eq_true rfl)) dX5_all_8 ⟨by dsimp only [headSpec]; omega, by dsimp only [headSpec]; omega⟩) hw (fun H locs hw => ?_)
        refine lv_goto (tgt := 0) hx hb dX5_all_11 (by decide) ?_
        refine W.widen (k := 0 + (16 - fu) * 2) (n := 0 + (16 - fu) * 9) (by omega) (by omega) ?_
        exact ih1 (by omega) _ ho1 _ _ _ hw (lv_sub hl [0] rfl)
  exact hL1 16 (Nat.le_refl _) _ ho1 _ _ _ hw (lv_sub hl [0] rfl)
theorem hdX1_takes : yX1_takes.cls = RX1 ∧ yX1_takes.cls ≠ "java/lang/invoke/MethodHandle" ∧ yX1_takes.cls ≠ "java/lang/invoke/VarHandle" ∧ (parseMethodDescriptor yX1_takes.desc).map (fun d => d.parameters.length) = some 1 := by decide +kernel
theorem ckX1_takes {h : Hp} {a0 : Nat} {a1 : Nat} {res : Hp} (hf : fX1_takes h a0 a1 = some res) : ep_cls h a0 = some 1 := by
  unfold fX1_takes at hf
  exact (oi_c hf).1
abbrev wX1_takes (p : Program) (l : Launch) (e : Env) (s : State) (m : MethodId) (below : List Frame) (meth : Method) (c : Code) (G : EG) (h : Hp) (a0 : Nat) (a1 : Nat) (res : Hp) (k9 n9 : Nat) (H : Heap) (locs : List Loc) (g : JFrame) : Prop := W p l e (headSpec (ws_ yX1_takes cX1_takes 3 none) ({ frames := 1, cells := 0, slots := 0, locals := 60 } : Room)).room s m ([.ref a0, .ref a1] : List Value).toArray below meth c H locs k9 n9 (MQ below (ep_Qv G ep_cl res) ([.ref a0, .ref a1] : List Value).toArray s 0 0 (ep_A G)) g
set_option maxHeartbeats 4000000 in
theorem metX1_takes (l : Launch) (G : EG) (h : Hp) (a0 : Nat) (a1 : Nat) {res : Hp} (hf : fX1_takes h a0 a1 = some res) : Met l yX1_takes (ws_ yX1_takes cX1_takes 3 none) ({ frames := 1, cells := 0, slots := 0, locals := 60 } : Room) (ep_Pc G ep_cl h [.ref a0, .ref a1]) (ep_Qv G ep_cl res) 0 0 (ep_A G) := by
  refine Met.ofW (cc := cX1_takes) (maxL := 3) (ret := none) (by decide) rfl ?_
  intro p e s m args below meth c s₁ B hml hv
  obtain ⟨rfl, hR, hK, hZ⟩ := hv
  have hx := B.exec
  have hb := B.bytes
  have hr := B.returns
  have hlocks := B.notSynchronized
  have hts := atoms_spec (ws := (ws_ yX1_takes cX1_takes 3 none)) B.pre
  have hts : ∀ w ∈ lw_all, w.before _ s = true := fun w h => hts w (List.mem_cons_of_mem _ h)
  have hown : s.vm.findClass RX1 = some m.cls := findClass_of_methodNamed B.named
  have hw : ep_W G ep_cl h s s.heap [] := ⟨hR, va_S.rf⟩
  have hl := lv_entry ([.ref a0, .ref a1]) (n := 3) (Nat.le_of_ble_eq_true rfl)
  rw [lg_entry_eq]
  generalize (lg_sl ([.ref a0, .ref a1]) ++ List.replicate (3 - (lg_sl ([.ref a0, .ref a1])).length) Slot.unset).toArray = ls at hl ⊢
  have hl : lv_has ls 3 [(0, .ref a0), (1, .ref a1)] := hl
  unfold fX1_takes at hf
  have hf := (oi_c hf).2
  show wX1_takes p l e s m below meth c G h a0 a1 res 0 0 s.heap ([]) (F0 m 0 ls [])
  refine lv_aload_n hx hb dX1_takes_0 rfl (lv_at hl 1 rfl) ?_
  obtain ⟨r1, er1, hf⟩ := ob_s hf
  refine ep_get (C := RX1) (T := TX1) (N := 11) (ci := 1) hx hb hts in_X1 hown hK hw rfl 0 (by decide) q145 (gR_f er1) dX1_takes_1 ?_
  refine lv_iconst (v := iI 0) hx hb dX1_takes_4 rfl ?_
  refine lv_aload_n hx hb dX1_takes_5 rfl (lv_at hl 0 rfl) ?_
  obtain ⟨r2, er2, hf⟩ := ob_s hf
  refine ep_get (C := RX1) (T := TX1) (N := 11) (ci := 1) hx hb hts in_X1 hown hK hw rfl 0 (by decide) q145 (gR_f er2) dX1_takes_6 ?_
  refine lv_iconst (v := iI 0) hx hb dX1_takes_9 rfl ?_
  refine lv_iconst (v := iI 4) hx hb dX1_takes_10 rfl ?_
  obtain ⟨h3, eh3, hf⟩ := ob_s hf
  refine ep_copy 0 (by decide) rfl hx hb (hml.trans hl.1.symm) hts hown q539 q128 q127 q90 hK hw eh3 (Nat.le_of_ble_eq_true rfl) (Nat.le_of_ble_eq_true rfl) dX1_takes_11 (fun H locs hw => ?_)
  refine lv_aload_n hx hb dX1_takes_14 rfl (lv_at hl 1 rfl) ?_
  obtain ⟨r4, er4, hf⟩ := ob_s hf
  refine ep_get (C := RX1) (T := TX1) (N := 11) (ci := 1) hx hb hts in_X1 hown hK hw rfl 1 (by decide) q148 (gR_f er4) dX1_takes_15 ?_
  refine lv_iconst (v := iI 0) hx hb dX1_takes_18 rfl ?_
  refine lv_aload_n hx hb dX1_takes_19 rfl (lv_at hl 0 rfl) ?_
  obtain ⟨r5, er5, hf⟩ := ob_s hf
  refine ep_get (C := RX1) (T := TX1) (N := 11) (ci := 1) hx hb hts in_X1 hown hK hw rfl 1 (by decide) q148 (gR_f er5) dX1_takes_20 ?_
  refine lv_iconst (v := iI 0) hx hb dX1_takes_23 rfl ?_
  refine lv_iconst (v := iI 4) hx hb dX1_takes_24 rfl ?_
  obtain ⟨h6, eh6, hf⟩ := ob_s hf
  refine ep_copy 0 (by decide) rfl hx hb (hml.trans hl.1.symm) hts hown q539 q128 q127 q90 hK hw eh6 (Nat.le_of_ble_eq_true rfl) (Nat.le_of_ble_eq_true rfl) dX1_takes_25 (fun H locs hw => ?_)
  refine lv_aload_n hx hb dX1_takes_28 rfl (lv_at hl 1 rfl) ?_
  obtain ⟨r7, er7, hf⟩ := ob_s hf
  refine ep_get (C := RX1) (T := TX1) (N := 11) (ci := 1) hx hb hts in_X1 hown hK hw rfl 2 (by decide) q151 (gR_f er7) dX1_takes_29 ?_
  refine lv_iconst (v := iI 0) hx hb dX1_takes_32 rfl ?_
  refine lv_aload_n hx hb dX1_takes_33 rfl (lv_at hl 0 rfl) ?_
  obtain ⟨r8, er8, hf⟩ := ob_s hf
  refine ep_get (C := RX1) (T := TX1) (N := 11) (ci := 1) hx hb hts in_X1 hown hK hw rfl 2 (by decide) q151 (gR_f er8) dX1_takes_34 ?_
  refine lv_iconst (v := iI 0) hx hb dX1_takes_37 rfl ?_
  refine lv_iconst (v := iI 5) hx hb dX1_takes_38 rfl ?_
  obtain ⟨h9, eh9, hf⟩ := ob_s hf
  refine ep_copy 0 (by decide) rfl hx hb (hml.trans hl.1.symm) hts hown q539 q128 q127 q90 hK hw eh9 (Nat.le_of_ble_eq_true rfl) (Nat.le_of_ble_eq_true rfl) dX1_takes_39 (fun H locs hw => ?_)
  refine lv_iconst (v := iI 0) hx hb dX1_takes_42 rfl ?_
  refine lv_istore_n (lv' := [(2, .int (iI 0)), (0, .ref a0), (1, .ref a1)]) hx hb dX1_takes_43 rfl hl (by decide) rfl (fun ls hl => ?_)
  obtain ⟨o10, ho10, hf⟩ := ob_s hf
  have hJ10 : ∀ (H : Heap) (locs : List Loc) (ls : Array Slot), ep_W G ep_cl o10 s H locs → lv_has ls 3 [(0, .ref a0), (1, .ref a1)] → wX1_takes p l e s m below meth c G h a0 a1 res 0 0 H locs (F0 m 73 ls []) := by
    intro H locs ls hw hl
    refine lv_aload_n hx hb dX1_takes_73 rfl (lv_at hl 1 rfl) ?_
    obtain ⟨r17, er17, hf⟩ := ob_s hf
    refine ep_get (C := RX1) (T := TX1) (N := 11) (ci := 1) hx hb hts in_X1 hown hK hw rfl 4 (by decide) q157 (gR_f er17) dX1_takes_74 ?_
    refine lv_iconst (v := iI 0) hx hb dX1_takes_77 rfl ?_
    refine lv_aload_n hx hb dX1_takes_78 rfl (lv_at hl 0 rfl) ?_
    obtain ⟨r18, er18, hf⟩ := ob_s hf
    refine ep_get (C := RX1) (T := TX1) (N := 11) (ci := 1) hx hb hts in_X1 hown hK hw rfl 4 (by decide) q157 (gR_f er18) dX1_takes_79 ?_
    refine lv_iconst (v := iI 0) hx hb dX1_takes_82 rfl ?_
    refine lv_iconst (v := iI 5) hx hb dX1_takes_83 rfl ?_
    obtain ⟨h19, eh19, hf⟩ := ob_s hf
    refine ep_copy 0 (by decide) rfl hx hb (hml.trans hl.1.symm) hts hown q539 q128 q127 q90 hK hw eh19 (Nat.le_of_ble_eq_true rfl) (Nat.le_of_ble_eq_true rfl) dX1_takes_84 (fun H locs hw => ?_)
    refine lv_aload_n hx hb dX1_takes_87 rfl (lv_at hl 1 rfl) ?_
    obtain ⟨r20, er20, hf⟩ := ob_s hf
    refine ep_get (C := RX1) (T := TX1) (N := 11) (ci := 1) hx hb hts in_X1 hown hK hw rfl 5 (by decide) q160 (gR_f er20) dX1_takes_88 ?_
    refine lv_iconst (v := iI 0) hx hb dX1_takes_91 rfl ?_
    refine lv_aload_n hx hb dX1_takes_92 rfl (lv_at hl 0 rfl) ?_
    obtain ⟨r21, er21, hf⟩ := ob_s hf
    refine ep_get (C := RX1) (T := TX1) (N := 11) (ci := 1) hx hb hts in_X1 hown hK hw rfl 5 (by decide) q160 (gR_f er21) dX1_takes_93 ?_
    refine lv_iconst (v := iI 0) hx hb dX1_takes_96 rfl ?_
    refine lv_iconst (v := iI 5) hx hb dX1_takes_97 rfl ?_
    obtain ⟨h22, eh22, hf⟩ := ob_s hf
    refine ep_copy 0 (by decide) rfl hx hb (hml.trans hl.1.symm) hts hown q539 q128 q127 q90 hK hw eh22 (Nat.le_of_ble_eq_true rfl) (Nat.le_of_ble_eq_true rfl) dX1_takes_98 (fun H locs hw => ?_)
    refine lv_aload_n hx hb dX1_takes_101 rfl (lv_at hl 1 rfl) ?_
    obtain ⟨r23, er23, hf⟩ := ob_s hf
    refine ep_get (C := RX1) (T := TX1) (N := 11) (ci := 1) hx hb hts in_X1 hown hK hw rfl 6 (by decide) q163 (gR_f er23) dX1_takes_102 ?_
    refine lv_iconst (v := iI 0) hx hb dX1_takes_105 rfl ?_
    refine lv_aload_n hx hb dX1_takes_106 rfl (lv_at hl 0 rfl) ?_
    obtain ⟨r24, er24, hf⟩ := ob_s hf
    refine ep_get (C := RX1) (T := TX1) (N := 11) (ci := 1) hx hb hts in_X1 hown hK hw rfl 6 (by decide) q163 (gR_f er24) dX1_takes_107 ?_
    refine lv_iconst (v := iI 0) hx hb dX1_takes_110 rfl ?_
    refine lv_iconst (v := iI 5) hx hb dX1_takes_111 rfl ?_
    obtain ⟨h25, eh25, hf⟩ := ob_s hf
    refine ep_copy 0 (by decide) rfl hx hb (hml.trans hl.1.symm) hts hown q539 q128 q127 q90 hK hw eh25 (Nat.le_of_ble_eq_true rfl) (Nat.le_of_ble_eq_true rfl) dX1_takes_112 (fun H locs hw => ?_)
    refine lv_aload_n hx hb dX1_takes_115 rfl (lv_at hl 0 rfl) ?_
    refine lv_aload_n hx hb dX1_takes_116 rfl (lv_at hl 1 rfl) ?_
    obtain ⟨v26, ev26, hf⟩ := ob_s hf
    refine ep_get (C := RX1) (T := TX1) (N := 11) (ci := 1) hx hb hts in_X1 hown hK hw rfl 7 (by decide) q166 (gI_f ev26) dX1_takes_117 ?_
    obtain ⟨h27, eh27, hf⟩ := ob_s hf
    refine ep_put (C := RX1) (T := TX1) (N := 11) (ci := 1) hx hb hts in_X1 tyX1 tyX1_ok nmX1 hown hK hw rfl (by decide) 7 (by decide) q166 rfl rfl rfl eh27 dX1_takes_120 (fun H locs hw => ?_)
    refine lv_aload_n hx hb dX1_takes_123 rfl (lv_at hl 0 rfl) ?_
    refine lv_aload_n hx hb dX1_takes_124 rfl (lv_at hl 1 rfl) ?_
    obtain ⟨v28, ev28, hf⟩ := ob_s hf
    refine ep_get (C := RX1) (T := TX1) (N := 11) (ci := 1) hx hb hts in_X1 hown hK hw rfl 8 (by decide) q169 (gI_f ev28) dX1_takes_125 ?_
    obtain ⟨h29, eh29, hf⟩ := ob_s hf
    refine ep_put (C := RX1) (T := TX1) (N := 11) (ci := 1) hx hb hts in_X1 tyX1 tyX1_ok nmX1 hown hK hw rfl (by decide) 8 (by decide) q169 rfl rfl rfl eh29 dX1_takes_128 (fun H locs hw => ?_)
    refine lv_aload_n hx hb dX1_takes_131 rfl (lv_at hl 0 rfl) ?_
    refine lv_aload_n hx hb dX1_takes_132 rfl (lv_at hl 1 rfl) ?_
    obtain ⟨v30, ev30, hf⟩ := ob_s hf
    refine ep_get (C := RX1) (T := TX1) (N := 11) (ci := 1) hx hb hts in_X1 hown hK hw rfl 9 (by decide) q171 (gI_f ev30) dX1_takes_133 ?_
    obtain ⟨h31, eh31, hf⟩ := ob_s hf
    refine ep_put (C := RX1) (T := TX1) (N := 11) (ci := 1) hx hb hts in_X1 tyX1 tyX1_ok nmX1 hown hK hw rfl (by decide) 9 (by decide) q171 rfl rfl rfl eh31 dX1_takes_136 (fun H locs hw => ?_)
    refine lv_aload_n hx hb dX1_takes_139 rfl (lv_at hl 0 rfl) ?_
    refine lv_aload_n hx hb dX1_takes_140 rfl (lv_at hl 1 rfl) ?_
    obtain ⟨v32, ev32, hf⟩ := ob_s hf
    refine ep_get (C := RX1) (T := TX1) (N := 11) (ci := 1) hx hb hts in_X1 hown hK hw rfl 10 (by decide) q173 (gI_f ev32) dX1_takes_141 ?_
    obtain ⟨h33, eh33, hf⟩ := ob_s hf
    refine ep_put (C := RX1) (T := TX1) (N := 11) (ci := 1) hx hb hts in_X1 tyX1 tyX1_ok nmX1 hown hK hw rfl (by decide) 10 (by decide) q173 rfl rfl rfl eh33 dX1_takes_144 (fun H locs hw => ?_)
    exact ep_retvW hx hb hr hlocks hw hf dX1_takes_147
  have hL10 : ∀ (fu : Nat) (h : Hp) (x2 : Int32), fX1_takes_L44 a0 a1 fu h x2 = some o10 → ∀ (H : Heap) (locs : List Loc) (ls : Array Slot), ep_W G ep_cl h s H locs → lv_has ls 3 [(0, .ref a0), (1, .ref a1), (2, .int x2)] → wX1_takes p l e s m below meth c G h a0 a1 res 0 0 H locs (F0 m 44 ls []) := by
    intro fu
    induction fu with
    | zero => intro h x2 ho10; cases ho10
    | succ fu ih10 =>
      intro h x2 ho10 H locs ls hw hl
      rw [fX1_takes_L44] at ho10
      refine lv_iload_n hx hb dX1_takes_44 rfl (lv_at hl 2 rfl) ?_
      refine lv_iconst (v := iI 5) hx hb dX1_takes_45 rfl ?_
      refine lv_icmp_ge (tgt := 73) hx hb dX1_takes_46 (by decide) (fun c11 => ?_) (fun c11 => ?_)
      · have ho10 := oi_t ho10 c11
        obtain rfl := Option.some.inj ho10
        exact hJ10 _ _ _ hw (lv_sub hl [0, 1] rfl)
      · have ho10 := oi_f ho10 c11
        refine lv_aload_n hx hb dX1_takes_49 rfl (lv_at hl 1 rfl) ?_
        obtain ⟨r12, er12, ho10⟩ := ob_s ho10
        refine ep_get (C := RX1) (T := TX1) (N := 11) (ci := 1) hx hb hts in_X1 hown hK hw rfl 3 (by decide) q154 (gR_f er12) dX1_takes_50 ?_
        refine lv_iload_n hx hb dX1_takes_53 rfl (lv_at hl 2 rfl) ?_
        obtain ⟨v13, ev13, ho10⟩ := ob_s ho10
        refine ep_aald 4 (by decide) rfl hx hb hK hw ev13 dX1_takes_54 ?_
        refine lv_iconst (v := iI 0) hx hb dX1_takes_55 rfl ?_
        refine lv_aload_n hx hb dX1_takes_56 rfl (lv_at hl 0 rfl) ?_
        obtain ⟨r14, er14, ho10⟩ := ob_s ho10
        refine ep_get (C := RX1) (T := TX1) (N := 11) (ci := 1) hx hb hts in_X1 hown hK hw rfl 3 (by decide) q154 (gR_f er14) dX1_takes_57 ?_
        refine lv_iload_n hx hb dX1_takes_60 rfl (lv_at hl 2 rfl) ?_
        obtain ⟨v15, ev15, ho10⟩ := ob_s ho10
        refine ep_aald 4 (by decide) rfl hx hb hK hw ev15 dX1_takes_61 ?_
        refine lv_iconst (v := iI 0) hx hb dX1_takes_62 rfl ?_
        refine lv_iconst (v := iI 5) hx hb dX1_takes_63 rfl ?_
        obtain ⟨h16, eh16, ho10⟩ := ob_s ho10
        refine ep_copy 1 (by decide) rfl hx hb (hml.trans hl.1.symm) hts hown q539 q128 q127 q90 hK hw eh16 (Nat.le_of_ble_eq_true rfl) (Nat.le_of_ble_eq_true rfl) dX1_takes_64 (fun H locs hw => ?_)
        refine lv_iinc (v := (x2 + iI 1)) (lv' := [(2, .int (x2 + iI 1)), (0, .ref a0), (1, .ref a1)]) hx hb dX1_takes_67 hl (k := 2) rfl rfl (by decide) rfl (fun ls hl => ?_)
        refine lv_goto (tgt := 44) hx hb dX1_takes_70 (by decide) ?_
        exact ih10 _ _ ho10 _ _ _ hw (lv_sub hl [1, 2, 0] rfl)
  exact hL10 FUEL _ _ ho10 _ _ _ hw (lv_sub hl [1, 2, 0] rfl)
theorem hdX0_text : yX0_text.cls = RX0 ∧ yX0_text.cls ≠ "java/lang/invoke/MethodHandle" ∧ yX0_text.cls ≠ "java/lang/invoke/VarHandle" ∧ (parseMethodDescriptor yX0_text.desc).map (fun d => d.parameters.length) = some 0 := by decide +kernel
theorem ckX0_text {h : Hp} {a0 : Nat} {res : Int32 × Hp} (hf : fX0_text h a0 = some res) : ep_cls h a0 = some 0 := by
  unfold fX0_text at hf
  exact (oi_c hf).1
abbrev wX0_text (p : Program) (l : Launch) (e : Env) (s : State) (m : MethodId) (below : List Frame) (meth : Method) (c : Code) (G : EG) (h : Hp) (a0 : Nat) (res : Int32 × Hp) (k9 n9 : Nat) (H : Heap) (locs : List Loc) (g : JFrame) : Prop := W p l e (headSpec (wsW_ yX0_text cX0_text 3 (some .int) [(26, 108, 109, 78)]) ({ frames := 12, cells := 51, slots := 405, locals := 267 } : Room)).room s m ([.ref a0] : List Value).toArray below meth c H locs k9 n9 (MQ below (ep_Qi G ep_cl res.2 res.1) ([.ref a0] : List Value).toArray s 51 405 (ep_A G)) g
set_option maxHeartbeats 4000000 in
theorem metX0_text (l : Launch) (G : EG) (h : Hp) (a0 : Nat) {res : Int32 × Hp} (hf : fX0_text h a0 = some res) : Met l yX0_text (wsW_ yX0_text cX0_text 3 (some .int) [(26, 108, 109, 78)]) ({ frames := 12, cells := 51, slots := 405, locals := 267 } : Room) (ep_Pc G ep_cl h [.ref a0]) (ep_Qi G ep_cl res.2 res.1) 51 405 (ep_A G) := by
  refine va_MetW (cc := cX0_text) (maxL := 3) (ret := (some .int)) (hh := [(26, 108, 109, 78)]) (by decide) rfl ?_
  intro p e s m args below meth c s₁ B hml hv
  obtain ⟨rfl, hR, hK, hZ⟩ := hv
  have hx := B.exec
  have hb := B.bytes
  have hr := B.returns
  have hlocks := B.notSynchronized
  have hts := atoms_spec (ws := (wsW_ yX0_text cX0_text 3 (some .int) [(26, 108, 109, 78)])) B.pre
  have htab := ep_tab B (hts _ List.mem_cons_self)
  have hts : ∀ w ∈ lw_all, w.before _ s = true := fun w h => hts w (List.mem_cons_of_mem _ h)
  have hown : s.vm.findClass RX0 = some m.cls := findClass_of_methodNamed B.named
  have hw : ep_W G ep_cl h s s.heap [] := ⟨hR, va_S.rf⟩
  have hl := lv_entry ([.ref a0]) (n := 3) (Nat.le_of_ble_eq_true rfl)
  rw [lg_entry_eq]
  generalize (lg_sl ([.ref a0]) ++ List.replicate (3 - (lg_sl ([.ref a0])).length) Slot.unset).toArray = ls at hl ⊢
  have hl : lv_has ls 3 [(0, .ref a0)] := hl
  unfold fX0_text at hf
  have hf := (oi_c hf).2
  show wX0_text p l e s m below meth c G h a0 res 0 0 s.heap ([]) (F0 m 0 ls [])
  refine lv_aload_n hx hb dX0_text_0 rfl (lv_at hl 0 rfl) ?_
  obtain ⟨v1, ev1, hf⟩ := ob_s hf
  refine ep_get (C := RX0) (T := TX0) (N := 25) (ci := 0) hx hb hts in_X0 hown hK hw rfl 1 (by decide) q927 (gI_f ev1) dX0_text_1 ?_
  obtain ⟨h2, eh2, hf⟩ := ob_s hf
  refine ep_newaH 1 160 hx hb hts (atype := .byte) q198 rfl (by decide) rfl (fun _ _ => rfl) hK hw (by decide) (Nat.le_of_ble_eq_true rfl) (Nat.le_of_ble_eq_true rfl) eh2 dX0_text_4 (fun H locs hw => ?_)
  refine lv_astore_n (lv' := [(1, .ref h.1), (0, .ref a0)]) hx hb dX0_text_6 rfl hl (by decide) rfl (fun ls hl => ?_)
  refine lv_aload_n hx hb dX0_text_7 rfl (lv_at hl 1 rfl) ?_
  obtain ⟨r3, er3, hf⟩ := ob_s hf
  refine ep_get (C := RX0) (T := TX0) (N := 25) (ci := 0) hx hb hts in_X0 hown hK hw rfl 0 (by decide) q926 (gR_f er3) dX0_text_8 ?_
  refine lv_iconst (v := iI 0) hx hb dX0_text_11 rfl ?_
  refine lv_aload_n hx hb dX0_text_12 rfl (lv_at hl 0 rfl) ?_
  refine lv_iconst (v := iI 0) hx hb dX0_text_13 rfl ?_
  refine lv_aload_n hx hb dX0_text_14 rfl (lv_at hl 1 rfl) ?_
  obtain ⟨v4, ev4, hf⟩ := ob_s hf
  refine ep_get (C := RX0) (T := TX0) (N := 25) (ci := 0) hx hb hts in_X0 hown hK hw rfl 1 (by decide) q927 (gI_f ev4) dX0_text_15 ?_
  obtain ⟨h5, eh5, hf⟩ := ob_s hf
  refine ep_copy 1 (by decide) rfl hx hb (hml.trans hl.1.symm) hts hown q126 q128 q127 q90 hK hw eh5 (Nat.le_of_ble_eq_true rfl) (Nat.le_of_ble_eq_true rfl) dX0_text_18 (fun H locs hw => ?_)
  refine lv_aload_n hx hb dX0_text_21 rfl (lv_at hl 1 rfl) ?_
  refine lv_iconst (v := iI 0) hx hb dX0_text_22 rfl ?_
  obtain ⟨h6, eh6, hf⟩ := ob_s hf
  refine ep_put (C := RX0) (T := TX0) (N := 25) (ci := 0) hx hb hts in_X0 tyX0 tyX0_ok nmX0 hown hK hw rfl (by decide) 1 (by decide) q927 rfl rfl rfl eh6 dX0_text_23 (fun H locs hw => ?_)
  obtain ⟨h7, eh7, hf⟩ := ob_s hf
  refine ep_newH (C := RX5) (T := TX5) (N := 11) (ci := 5) hx hb hts in_X5 tyX5 tyX5_ok hown q129 q130 q91 hK hw rfl (by decide) (Nat.le_of_ble_eq_true rfl) (Nat.le_of_ble_eq_true rfl) eh7 dX0_text_26 (fun H locs hw => ?_)
  refine lv_dup hx hb dX0_text_29 rfl ?_
  refine lv_aload_n hx hb dX0_text_30 rfl (lv_at hl 0 rfl) ?_
  obtain ⟨zo8, eo8, hko8⟩ := orL_s hf
  rcases zo8 with xo8 | o8
  · have hf := orL_1 hko8 rfl
    obtain ⟨hxo8_0, hf⟩ := oi_c hf
    refine ep_catchT (hpc := 109) hown (ep_runIT (As := [.ref h.1]) (rest := [.ref h6.1]) ⟨hx, hb, hml, hown, hts⟩ (metTX5_init l G h7 h6.1 h.1 eo8) (cwI 1 hts (lw_meth q133) rfl rfl rfl (hts _ q91) (hts _ q131) (hts _ q132) rfl hdX5_init.2 ⟨Nat.le_of_ble_eq_true rfl, Nat.le_of_ble_eq_true rfl⟩) (ep_preS hK hZ hw) rfl rfl hl.1 rfl (lv_room (Nat.le_of_ble_eq_true rfl)) dX0_text_31 ⟨Nat.le_of_ble_eq_true rfl, Nat.le_of_ble_eq_true rfl⟩) hw (by rw [hxo8_0]; exact ep_cat1 (kind := 0) htab (by decide) (by decide) (hts _ q125)) (fun H locs hw => ?_)
    refine lv_astore_n (lv' := [(2, .ref xo8.2.1), (1, .ref h.1), (0, .ref a0)]) hx hb dX0_text_109 rfl hl (by decide) rfl (fun ls hl => ?_)
    refine lv_aload_n hx hb dX0_text_110 rfl (lv_at hl 2 rfl) ?_
    refine lv_aload_n hx hb dX0_text_111 rfl (lv_at hl 0 rfl) ?_
    obtain ⟨v9, ev9, hf⟩ := ob_s hf
    refine ep_getN (C := RX6) (T := TX6) (N := 8) (ci := 6) hx hb hts in_X6 hown hK hw rfl 6 (by decide) q288 (gI_f ev9) dX0_text_112 ?_
    obtain ⟨h10, eh10, hf⟩ := ob_s hf
    refine ep_put (C := RX0) (T := TX0) (N := 25) (ci := 0) hx hb hts in_X0 tyX0 tyX0_ok nmX0 hown hK hw rfl (by decide) 2 (by decide) q928 rfl rfl rfl eh10 dX0_text_115 (fun H locs hw => ?_)
    refine lv_bipush (v := iI (-10)) hx hb dX0_text_118 (by decide) ?_
    refine lv_aload_n hx hb dX0_text_120 rfl (lv_at hl 0 rfl) ?_
    obtain ⟨v11, ev11, hf⟩ := ob_s hf
    refine ep_getN (C := RX6) (T := TX6) (N := 8) (ci := 6) hx hb hts in_X6 hown hK hw rfl 7 (by decide) q290 (gI_f ev11) dX0_text_121 ?_
    refine lv_isub hx hb dX0_text_124 ?_
    refine W.widen (k := 51) (n := 405) (Nat.le_of_ble_eq_true rfl) (Nat.le_of_ble_eq_true rfl) ?_
    exact ep_retiW hx hb hr hlocks hw hf dX0_text_125
  have hf := orL_2 hko8 rfl
  refine ep_callv (va_runI (As := [.ref h.1]) (rest := [.ref h6.1]) ⟨hx, hb, hml, hown, hts⟩ (metX5_init l G h7 h6.1 h.1 eo8) (cwI 1 hts (lw_meth q133) rfl rfl rfl (hts _ q91) (hts _ q131) (hts _ q132) rfl hdX5_init.2 ⟨Nat.le_of_ble_eq_true rfl, Nat.le_of_ble_eq_true rfl⟩) (ep_preS hK hZ hw) rfl rfl hl.1 rfl (lv_room (Nat.le_of_ble_eq_true rfl)) dX0_text_31 ⟨Nat.le_of_ble_eq_true rfl, Nat.le_of_ble_eq_true rfl⟩) hw (fun H locs hw => ?_)
  refine lv_astore_n (lv' := [(2, .ref h6.1), (1, .ref h.1), (0, .ref a0)]) hx hb dX0_text_34 rfl hl (by decide) rfl (fun ls hl => ?_)
  refine lv_aload_n hx hb dX0_text_35 rfl (lv_at hl 0 rfl) ?_
  obtain ⟨zo12, eo12, hko12⟩ := orL_s hf
  rcases zo12 with xo12 | o12
  · have hf := orL_1 hko12 rfl
    obtain ⟨hxo12_0, hf⟩ := oi_c hf
    refine ep_catchT (hpc := 109) hown (ep_runVT (As := []) (rest := []) ⟨hx, hb, hml, hown, hts⟩ (metTX5_all l G o8 h6.1 eo12) (cwV 0 hts (lw_V q347 q348 q349 q91 q350) rfl rfl rfl hdX5_all ⟨Nat.le_of_ble_eq_true rfl, Nat.le_of_ble_eq_true rfl⟩) (ep_preV hK hZ hw rfl (ckX5_all eo12)) rfl rfl hl.1 rfl (lv_room (Nat.le_of_ble_eq_true rfl)) dX0_text_36 ⟨Nat.le_of_ble_eq_true rfl, Nat.le_of_ble_eq_true rfl⟩) hw (by rw [hxo12_0]; exact ep_cat1 (kind := 0) htab (by decide) (by decide) (hts _ q125)) (fun H locs hw => ?_)
    refine lv_astore_n (lv' := [(2, .ref xo12.2.1), (1, .ref h.1), (0, .ref a0)]) hx hb dX0_text_109 rfl hl (by decide) rfl (fun ls hl => ?_)
    refine lv_aload_n hx hb dX0_text_110 rfl (lv_at hl 2 rfl) ?_
    refine lv_aload_n hx hb dX0_text_111 rfl (lv_at hl 0 rfl) ?_
    obtain ⟨v13, ev13, hf⟩ := ob_s hf
    refine ep_getN (C := RX6) (T := TX6) (N := 8) (ci := 6) hx hb hts in_X6 hown hK hw rfl 6 (by decide) q288 (gI_f ev13) dX0_text_112 ?_
    obtain ⟨h14, eh14, hf⟩ := ob_s hf
    refine ep_put (C := RX0) (T := TX0) (N := 25) (ci := 0) hx hb hts in_X0 tyX0 tyX0_ok nmX0 hown hK hw rfl (by decide) 2 (by decide) q928 rfl rfl rfl eh14 dX0_text_115 (fun H locs hw => ?_)
    refine lv_bipush (v := iI (-10)) hx hb dX0_text_118 (by decide) ?_
    refine lv_aload_n hx hb dX0_text_120 rfl (lv_at hl 0 rfl) ?_
    obtain ⟨v15, ev15, hf⟩ := ob_s hf
    refine ep_getN (C := RX6) (T := TX6) (N := 8) (ci := 6) hx hb hts in_X6 hown hK hw rfl 7 (by decide) q290 (gI_f ev15) dX0_text_121 ?_
    refine lv_isub hx hb dX0_text_124 ?_
    exact ep_retiW hx hb hr hlocks hw hf dX0_text_125
  have hf := orL_2 hko12 rfl
  refine ep_callv (va_runV (As := []) (rest := []) ⟨hx, hb, hml, hown, hts⟩ (metX5_all l G o8 h6.1 eo12) (cwV 0 hts (lw_V q347 q348 q349 q91 q350) rfl rfl rfl hdX5_all ⟨Nat.le_of_ble_eq_true rfl, Nat.le_of_ble_eq_true rfl⟩) (ep_preV hK hZ hw rfl (ckX5_all eo12)) rfl rfl hl.1 rfl (lv_room (Nat.le_of_ble_eq_true rfl)) dX0_text_36 ⟨Nat.le_of_ble_eq_true rfl, Nat.le_of_ble_eq_true rfl⟩) hw (fun H locs hw => ?_)
  refine lv_aload_n hx hb dX0_text_39 rfl (lv_at hl 2 rfl) ?_
  obtain ⟨r16, er16, hf⟩ := ob_s hf
  refine ep_get (C := RX0) (T := TX0) (N := 25) (ci := 0) hx hb hts in_X0 hown hK hw rfl 3 (by decide) q930 (gR_f er16) dX0_text_40 ?_
  refine lv_aload_n hx hb dX0_text_43 rfl (lv_at hl 0 rfl) ?_
  obtain ⟨r17, er17, hf⟩ := ob_s hf
  refine ep_getN (C := RX5) (T := TX5) (N := 11) (ci := 5) hx hb hts in_X5 hown hK hw rfl 1 (by decide) q310 (gR_f er17) dX0_text_44 ?_
  obtain ⟨o18, eo18, hf⟩ := ob_s hf
  refine ep_callv0 (va_runV (As := [.ref r17]) (rest := []) ⟨hx, hb, hml, hown, hts⟩ (metX1_takes l G o12 r16 r17 eo18) (cwV 1 hts (lw_V q535 q536 q537 q86 q538) rfl rfl rfl hdX1_takes ⟨Nat.le_of_ble_eq_true rfl, Nat.le_of_ble_eq_true rfl⟩) (ep_preV hK hZ hw rfl (ckX1_takes eo18)) rfl rfl hl.1 rfl (lv_room (Nat.le_of_ble_eq_true rfl)) dX0_text_47 ⟨Nat.le_of_ble_eq_true rfl, Nat.le_of_ble_eq_true rfl⟩) hw (fun H locs hw => ?_)
  refine lv_aload_n hx hb dX0_text_50 rfl (lv_at hl 2 rfl) ?_
  refine lv_aload_n hx hb dX0_text_51 rfl (lv_at hl 0 rfl) ?_
  obtain ⟨r19, er19, hf⟩ := ob_s hf
  refine ep_getN (C := RX5) (T := TX5) (N := 11) (ci := 5) hx hb hts in_X5 hown hK hw rfl 2 (by decide) q312 (gR_f er19) dX0_text_52 ?_
  obtain ⟨h20, eh20, hf⟩ := ob_s hf
  refine ep_put (C := RX0) (T := TX0) (N := 25) (ci := 0) hx hb hts in_X0 tyX0 tyX0_ok nmX0 hown hK hw rfl (by decide) 5 (by decide) q932 rfl rfl rfl eh20 dX0_text_55 (fun H locs hw => ?_)
  refine lv_aload_n hx hb dX0_text_58 rfl (lv_at hl 2 rfl) ?_
  refine lv_aload_n hx hb dX0_text_59 rfl (lv_at hl 0 rfl) ?_
  obtain ⟨v21, ev21, hf⟩ := ob_s hf
  refine ep_getN (C := RX5) (T := TX5) (N := 11) (ci := 5) hx hb hts in_X5 hown hK hw rfl 3 (by decide) q313 (gI_f ev21) dX0_text_60 ?_
  obtain ⟨h22, eh22, hf⟩ := ob_s hf
  refine ep_put (C := RX0) (T := TX0) (N := 25) (ci := 0) hx hb hts in_X0 tyX0 tyX0_ok nmX0 hown hK hw rfl (by decide) 4 (by decide) q931 rfl rfl rfl eh22 dX0_text_63 (fun H locs hw => ?_)
  refine lv_aload_n hx hb dX0_text_66 rfl (lv_at hl 2 rfl) ?_
  refine lv_aload_n hx hb dX0_text_67 rfl (lv_at hl 0 rfl) ?_
  obtain ⟨v23, ev23, hf⟩ := ob_s hf
  refine ep_getN (C := RX5) (T := TX5) (N := 11) (ci := 5) hx hb hts in_X5 hown hK hw rfl 4 (by decide) q315 (gI_f ev23) dX0_text_68 ?_
  obtain ⟨h24, eh24, hf⟩ := ob_s hf
  refine ep_put (C := RX0) (T := TX0) (N := 25) (ci := 0) hx hb hts in_X0 tyX0 tyX0_ok nmX0 hown hK hw rfl (by decide) 6 (by decide) q933 rfl rfl rfl eh24 dX0_text_71 (fun H locs hw => ?_)
  refine lv_aload_n hx hb dX0_text_74 rfl (lv_at hl 2 rfl) ?_
  refine lv_iconst (v := iI 0) hx hb dX0_text_75 rfl ?_
  obtain ⟨h25, eh25, hf⟩ := ob_s hf
  refine ep_put (C := RX0) (T := TX0) (N := 25) (ci := 0) hx hb hts in_X0 tyX0 tyX0_ok nmX0 hown hK hw rfl (by decide) 18 (by decide) q947 rfl rfl rfl eh25 dX0_text_76 (fun H locs hw => ?_)
  refine lv_aload_n hx hb dX0_text_79 rfl (lv_at hl 2 rfl) ?_
  obtain ⟨r26, er26, hf⟩ := ob_s hf
  refine ep_get (C := RX0) (T := TX0) (N := 25) (ci := 0) hx hb hts in_X0 hown hK hw rfl 19 (by decide) q948 (gR_f er26) dX0_text_80 ?_
  refine lv_iconst (v := iI 0) hx hb dX0_text_83 rfl ?_
  obtain ⟨v27, ev27, hf⟩ := ob_s hf
  refine ep_aald 7 (by decide) rfl hx hb hK hw ev27 dX0_text_84 ?_
  refine lv_iconst (v := iI 0) hx hb dX0_text_85 rfl ?_
  obtain ⟨h28, eh28, hf⟩ := ob_s hf
  refine ep_putN (C := RX2) (T := TX2) (N := 5) (ci := 2) hx hb hts in_X2 tyX2 tyX2_ok nmX2 hown hK hw rfl (by decide) 3 (by decide) q899 rfl rfl rfl eh28 dX0_text_86 (fun H locs hw => ?_)
  refine lv_aload_n hx hb dX0_text_89 rfl (lv_at hl 2 rfl) ?_
  obtain ⟨r29, er29, hf⟩ := ob_s hf
  refine ep_get (C := RX0) (T := TX0) (N := 25) (ci := 0) hx hb hts in_X0 hown hK hw rfl 19 (by decide) q948 (gR_f er29) dX0_text_90 ?_
  refine lv_iconst (v := iI 1) hx hb dX0_text_93 rfl ?_
  obtain ⟨v30, ev30, hf⟩ := ob_s hf
  refine ep_aald 7 (by decide) rfl hx hb hK hw ev30 dX0_text_94 ?_
  refine lv_iconst (v := iI 0) hx hb dX0_text_95 rfl ?_
  obtain ⟨h31, eh31, hf⟩ := ob_s hf
  refine ep_putN (C := RX2) (T := TX2) (N := 5) (ci := 2) hx hb hts in_X2 tyX2 tyX2_ok nmX2 hown hK hw rfl (by decide) 3 (by decide) q899 rfl rfl rfl eh31 dX0_text_96 (fun H locs hw => ?_)
  refine lv_aload_n hx hb dX0_text_99 rfl (lv_at hl 2 rfl) ?_
  refine lv_iconst (v := iI 0) hx hb dX0_text_100 rfl ?_
  obtain ⟨h32, eh32, hf⟩ := ob_s hf
  refine ep_put (C := RX0) (T := TX0) (N := 25) (ci := 0) hx hb hts in_X0 tyX0 tyX0_ok nmX0 hown hK hw rfl (by decide) 2 (by decide) q928 rfl rfl rfl eh32 dX0_text_101 (fun H locs hw => ?_)
  refine lv_aload_n hx hb dX0_text_104 rfl (lv_at hl 0 rfl) ?_
  obtain ⟨v33, ev33, hf⟩ := ob_s hf
  refine ep_getN (C := RX5) (T := TX5) (N := 11) (ci := 5) hx hb hts in_X5 hown hK hw rfl 6 (by decide) q318 (gI_f ev33) dX0_text_105 ?_
  refine W.widen (k := 51) (n := 405) (Nat.le_of_ble_eq_true rfl) (Nat.le_of_ble_eq_true rfl) ?_
  exact ep_retiW hx hb hr hlocks hw hf dX0_text_108
theorem hdX0_fault : yX0_fault.cls = RX0 ∧ yX0_fault.cls ≠ "java/lang/invoke/MethodHandle" ∧ yX0_fault.cls ≠ "java/lang/invoke/VarHandle" ∧ (parseMethodDescriptor yX0_fault.desc).map (fun d => d.parameters.length) = some 0 := by decide +kernel
theorem ckX0_fault {h : Hp} {a0 : Nat} {res : Int32} (hf : fX0_fault h a0 = some res) : ep_cls h a0 = some 0 := by
  unfold fX0_fault at hf
  exact (oi_c hf).1
abbrev wX0_fault (p : Program) (l : Launch) (e : Env) (s : State) (m : MethodId) (below : List Frame) (meth : Method) (c : Code) (G : EG) (h : Hp) (a0 : Nat) (res : Int32) (k9 n9 : Nat) (H : Heap) (locs : List Loc) (g : JFrame) : Prop := W p l e (headSpec (ws_ yX0_fault cX0_fault 1 (some .int)) ({ frames := 0, cells := 0, slots := 0, locals := 0 } : Room)).room s m ([.ref a0] : List Value).toArray below meth c H locs k9 n9 (MQ below (ep_Qi G ep_cl h res) ([.ref a0] : List Value).toArray s 0 0 (ep_A G)) g
set_option maxHeartbeats 4000000 in
theorem metX0_fault (l : Launch) (G : EG) (h : Hp) (a0 : Nat) {res : Int32} (hf : fX0_fault h a0 = some res) : Met l yX0_fault (ws_ yX0_fault cX0_fault 1 (some .int)) ({ frames := 0, cells := 0, slots := 0, locals := 0 } : Room) (ep_Pc G ep_cl h [.ref a0]) (ep_Qi G ep_cl h res) 0 0 (ep_A G) := by
  refine Met.ofW (cc := cX0_fault) (maxL := 1) (ret := (some .int)) (by decide) rfl ?_
  intro p e s m args below meth c s₁ B hml hv
  obtain ⟨rfl, hR, hK, hZ⟩ := hv
  have hx := B.exec
  have hb := B.bytes
  have hr := B.returns
  have hlocks := B.notSynchronized
  have hts := atoms_spec (ws := (ws_ yX0_fault cX0_fault 1 (some .int))) B.pre
  have hts : ∀ w ∈ lw_all, w.before _ s = true := fun w h => hts w (List.mem_cons_of_mem _ h)
  have hown : s.vm.findClass RX0 = some m.cls := findClass_of_methodNamed B.named
  have hw : ep_W G ep_cl h s s.heap [] := ⟨hR, va_S.rf⟩
  have hl := lv_entry ([.ref a0]) (n := 1) (Nat.le_of_ble_eq_true rfl)
  rw [lg_entry_eq]
  generalize (lg_sl ([.ref a0]) ++ List.replicate (1 - (lg_sl ([.ref a0])).length) Slot.unset).toArray = ls at hl ⊢
  have hl : lv_has ls 1 [(0, .ref a0)] := hl
  unfold fX0_fault at hf
  have hf := (oi_c hf).2
  show wX0_fault p l e s m below meth c G h a0 res 0 0 s.heap ([]) (F0 m 0 ls [])
  refine lv_aload_n hx hb dX0_fault_0 rfl (lv_at hl 0 rfl) ?_
  obtain ⟨v1, ev1, hf⟩ := ob_s hf
  refine ep_get (C := RX0) (T := TX0) (N := 25) (ci := 0) hx hb hts in_X0 hown hK hw rfl 2 (by decide) q928 (gI_f ev1) dX0_fault_1 ?_
  exact ep_retiR hx hb hr hlocks hw hf dX0_fault_4
theorem hdX1_isSold : yX1_isSold.cls = RX1 ∧ yX1_isSold.cls ≠ "java/lang/invoke/MethodHandle" ∧ yX1_isSold.cls ≠ "java/lang/invoke/VarHandle" ∧ (parseMethodDescriptor yX1_isSold.desc).map (fun d => d.parameters.length) = some 1 := by decide +kernel
theorem ckX1_isSold {h : Hp} {a0 : Nat} {x1 : Int32} {res : Int32} (hf : fX1_isSold h a0 x1 = some res) : ep_cls h a0 = some 1 := by
  unfold fX1_isSold at hf
  exact (oi_c hf).1
abbrev wX1_isSold (p : Program) (l : Launch) (e : Env) (s : State) (m : MethodId) (below : List Frame) (meth : Method) (c : Code) (G : EG) (h : Hp) (a0 : Nat) (x1 : Int32) (res : Int32) (k9 n9 : Nat) (H : Heap) (locs : List Loc) (g : JFrame) : Prop := W p l e (headSpec (ws_ yX1_isSold cX1_isSold 2 (some .boolean)) ({ frames := 0, cells := 0, slots := 0, locals := 0 } : Room)).room s m ([.ref a0, .int x1] : List Value).toArray below meth c H locs k9 n9 (MQ below (ep_Qi G ep_cl h res) ([.ref a0, .int x1] : List Value).toArray s 0 0 (ep_A G)) g
set_option maxHeartbeats 4000000 in
theorem metX1_isSold (l : Launch) (G : EG) (h : Hp) (a0 : Nat) (x1 : Int32) {res : Int32} (hf : fX1_isSold h a0 x1 = some res) : Met l yX1_isSold (ws_ yX1_isSold cX1_isSold 2 (some .boolean)) ({ frames := 0, cells := 0, slots := 0, locals := 0 } : Room) (ep_Pc G ep_cl h [.ref a0, .int x1]) (ep_Qi G ep_cl h res) 0 0 (ep_A G) := by
  refine Met.ofW (cc := cX1_isSold) (maxL := 2) (ret := (some .boolean)) (by decide) rfl ?_
  intro p e s m args below meth c s₁ B hml hv
  obtain ⟨rfl, hR, hK, hZ⟩ := hv
  have hx := B.exec
  have hb := B.bytes
  have hr := B.returns
  have hlocks := B.notSynchronized
  have hts := atoms_spec (ws := (ws_ yX1_isSold cX1_isSold 2 (some .boolean))) B.pre
  have hts : ∀ w ∈ lw_all, w.before _ s = true := fun w h => hts w (List.mem_cons_of_mem _ h)
  have hown : s.vm.findClass RX1 = some m.cls := findClass_of_methodNamed B.named
  have hw : ep_W G ep_cl h s s.heap [] := ⟨hR, va_S.rf⟩
  have hl := lv_entry ([.ref a0, .int x1]) (n := 2) (Nat.le_of_ble_eq_true rfl)
  rw [lg_entry_eq]
  generalize (lg_sl ([.ref a0, .int x1]) ++ List.replicate (2 - (lg_sl ([.ref a0, .int x1])).length) Slot.unset).toArray = ls at hl ⊢
  have hl : lv_has ls 2 [(0, .ref a0), (1, .int x1)] := hl
  unfold fX1_isSold at hf
  have hf := (oi_c hf).2
  show wX1_isSold p l e s m below meth c G h a0 x1 res 0 0 s.heap ([]) (F0 m 0 ls [])
  refine lv_aload_n hx hb dX1_isSold_0 rfl (lv_at hl 0 rfl) ?_
  obtain ⟨r1, er1, hf⟩ := ob_s hf
  refine ep_get (C := RX1) (T := TX1) (N := 11) (ci := 1) hx hb hts in_X1 hown hK hw rfl 6 (by decide) q163 (gR_f er1) dX1_isSold_1 ?_
  refine lv_iload_n hx hb dX1_isSold_4 rfl (lv_at hl 1 rfl) ?_
  obtain ⟨v2, ev2, hf⟩ := ob_s hf
  refine ep_iald hx hb hK hw ev2 dX1_isSold_5 ?_
  refine lv_bipush (v := iI (-4)) hx hb dX1_isSold_6 (by decide) ?_
  refine lv_icmp_ne (tgt := 15) hx hb dX1_isSold_8 (by decide) (fun c3 => ?_) (fun c3 => ?_)
  · have hf := oi_f hf c3
    refine lv_iconst (v := iI 0) hx hb dX1_isSold_15 rfl ?_
    exact ep_retzR hx hb hr rfl hlocks hw hf dX1_isSold_16
  · have hf := oi_t hf c3
    refine lv_iconst (v := iI 1) hx hb dX1_isSold_11 rfl ?_
    refine lv_goto (tgt := 16) hx hb dX1_isSold_12 (by decide) ?_
    exact ep_retzR hx hb hr rfl hlocks hw hf dX1_isSold_16
theorem hdX1_isSilent : yX1_isSilent.cls = RX1 ∧ yX1_isSilent.cls ≠ "java/lang/invoke/MethodHandle" ∧ yX1_isSilent.cls ≠ "java/lang/invoke/VarHandle" ∧ (parseMethodDescriptor yX1_isSilent.desc).map (fun d => d.parameters.length) = some 1 := by decide +kernel
theorem ckX1_isSilent {h : Hp} {a0 : Nat} {x1 : Int32} {res : Int32} (hf : fX1_isSilent h a0 x1 = some res) : ep_cls h a0 = some 1 := by
  unfold fX1_isSilent at hf
  exact (oi_c hf).1
abbrev wX1_isSilent (p : Program) (l : Launch) (e : Env) (s : State) (m : MethodId) (below : List Frame) (meth : Method) (c : Code) (G : EG) (h : Hp) (a0 : Nat) (x1 : Int32) (res : Int32) (k9 n9 : Nat) (H : Heap) (locs : List Loc) (g : JFrame) : Prop := W p l e (headSpec (ws_ yX1_isSilent cX1_isSilent 2 (some .boolean)) ({ frames := 0, cells := 0, slots := 0, locals := 0 } : Room)).room s m ([.ref a0, .int x1] : List Value).toArray below meth c H locs k9 n9 (MQ below (ep_Qi G ep_cl h res) ([.ref a0, .int x1] : List Value).toArray s 0 0 (ep_A G)) g
set_option maxHeartbeats 4000000 in
theorem metX1_isSilent (l : Launch) (G : EG) (h : Hp) (a0 : Nat) (x1 : Int32) {res : Int32} (hf : fX1_isSilent h a0 x1 = some res) : Met l yX1_isSilent (ws_ yX1_isSilent cX1_isSilent 2 (some .boolean)) ({ frames := 0, cells := 0, slots := 0, locals := 0 } : Room) (ep_Pc G ep_cl h [.ref a0, .int x1]) (ep_Qi G ep_cl h res) 0 0 (ep_A G) := by
  refine Met.ofW (cc := cX1_isSilent) (maxL := 2) (ret := (some .boolean)) (by decide) rfl ?_
  intro p e s m args below meth c s₁ B hml hv
  obtain ⟨rfl, hR, hK, hZ⟩ := hv
  have hx := B.exec
  have hb := B.bytes
  have hr := B.returns
  have hlocks := B.notSynchronized
  have hts := atoms_spec (ws := (ws_ yX1_isSilent cX1_isSilent 2 (some .boolean))) B.pre
  have hts : ∀ w ∈ lw_all, w.before _ s = true := fun w h => hts w (List.mem_cons_of_mem _ h)
  have hown : s.vm.findClass RX1 = some m.cls := findClass_of_methodNamed B.named
  have hw : ep_W G ep_cl h s s.heap [] := ⟨hR, va_S.rf⟩
  have hl := lv_entry ([.ref a0, .int x1]) (n := 2) (Nat.le_of_ble_eq_true rfl)
  rw [lg_entry_eq]
  generalize (lg_sl ([.ref a0, .int x1]) ++ List.replicate (2 - (lg_sl ([.ref a0, .int x1])).length) Slot.unset).toArray = ls at hl ⊢
  have hl : lv_has ls 2 [(0, .ref a0), (1, .int x1)] := hl
  unfold fX1_isSilent at hf
  have hf := (oi_c hf).2
  show wX1_isSilent p l e s m below meth c G h a0 x1 res 0 0 s.heap ([]) (F0 m 0 ls [])
  refine lv_aload_n hx hb dX1_isSilent_0 rfl (lv_at hl 0 rfl) ?_
  obtain ⟨r1, er1, hf⟩ := ob_s hf
  refine ep_get (C := RX1) (T := TX1) (N := 11) (ci := 1) hx hb hts in_X1 hown hK hw rfl 5 (by decide) q160 (gR_f er1) dX1_isSilent_1 ?_
  refine lv_iload_n hx hb dX1_isSilent_4 rfl (lv_at hl 1 rfl) ?_
  obtain ⟨v2, ev2, hf⟩ := ob_s hf
  refine ep_iald hx hb hK hw ev2 dX1_isSilent_5 ?_
  refine lv_if_eq (tgt := 18) hx hb dX1_isSilent_6 (by decide) (fun c3 => ?_) (fun c3 => ?_)
  · have hf := oi_t hf c3
    refine lv_iconst (v := iI 1) hx hb dX1_isSilent_18 rfl ?_
    refine lv_goto (tgt := 23) hx hb dX1_isSilent_19 (by decide) ?_
    exact ep_retzR hx hb hr rfl hlocks hw hf dX1_isSilent_23
  · have hf := oi_f hf c3
    refine lv_aload_n hx hb dX1_isSilent_9 rfl (lv_at hl 0 rfl) ?_
    obtain ⟨r4, er4, hf⟩ := ob_s hf
    refine ep_get (C := RX1) (T := TX1) (N := 11) (ci := 1) hx hb hts in_X1 hown hK hw rfl 4 (by decide) q157 (gR_f er4) dX1_isSilent_10 ?_
    refine lv_iload_n hx hb dX1_isSilent_13 rfl (lv_at hl 1 rfl) ?_
    obtain ⟨v5, ev5, hf⟩ := ob_s hf
    refine ep_iald hx hb hK hw ev5 dX1_isSilent_14 ?_
    refine lv_if_ne (tgt := 22) hx hb dX1_isSilent_15 (by decide) (fun c6 => ?_) (fun c6 => ?_)
    · have hf := oi_f hf c6
      refine lv_iconst (v := iI 0) hx hb dX1_isSilent_22 rfl ?_
      exact ep_retzR hx hb hr rfl hlocks hw hf dX1_isSilent_23
    · have hf := oi_t hf c6
      refine lv_iconst (v := iI 1) hx hb dX1_isSilent_18 rfl ?_
      refine lv_goto (tgt := 23) hx hb dX1_isSilent_19 (by decide) ?_
      exact ep_retzR hx hb hr rfl hlocks hw hf dX1_isSilent_23
theorem hdX1_silent : yX1_silent.cls = RX1 ∧ yX1_silent.cls ≠ "java/lang/invoke/MethodHandle" ∧ yX1_silent.cls ≠ "java/lang/invoke/VarHandle" ∧ (parseMethodDescriptor yX1_silent.desc).map (fun d => d.parameters.length) = some 0 := by decide +kernel
theorem ckX1_silent {h : Hp} {a0 : Nat} {res : Int32} (hf : fX1_silent h a0 = some res) : ep_cls h a0 = some 1 := by
  unfold fX1_silent at hf
  exact (oi_c hf).1
abbrev wX1_silent (p : Program) (l : Launch) (e : Env) (s : State) (m : MethodId) (below : List Frame) (meth : Method) (c : Code) (G : EG) (h : Hp) (a0 : Nat) (res : Int32) (k9 n9 : Nat) (H : Heap) (locs : List Loc) (g : JFrame) : Prop := W p l e (headSpec (ws_ yX1_silent cX1_silent 3 (some .int)) ({ frames := 1, cells := 0, slots := 0, locals := 21 } : Room)).room s m ([.ref a0] : List Value).toArray below meth c H locs k9 n9 (MQ below (ep_Qi G ep_cl h res) ([.ref a0] : List Value).toArray s 0 0 (ep_A G)) g
set_option maxHeartbeats 4000000 in
theorem metX1_silent (l : Launch) (G : EG) (h : Hp) (a0 : Nat) {res : Int32} (hf : fX1_silent h a0 = some res) : Met l yX1_silent (ws_ yX1_silent cX1_silent 3 (some .int)) ({ frames := 1, cells := 0, slots := 0, locals := 21 } : Room) (ep_Pc G ep_cl h [.ref a0]) (ep_Qi G ep_cl h res) 0 0 (ep_A G) := by
  refine Met.ofW (cc := cX1_silent) (maxL := 3) (ret := (some .int)) (by decide) rfl ?_
  intro p e s m args below meth c s₁ B hml hv
  obtain ⟨rfl, hR, hK, hZ⟩ := hv
  have hx := B.exec
  have hb := B.bytes
  have hr := B.returns
  have hlocks := B.notSynchronized
  have hts := atoms_spec (ws := (ws_ yX1_silent cX1_silent 3 (some .int))) B.pre
  have hts : ∀ w ∈ lw_all, w.before _ s = true := fun w h => hts w (List.mem_cons_of_mem _ h)
  have hown : s.vm.findClass RX1 = some m.cls := findClass_of_methodNamed B.named
  have hw : ep_W G ep_cl h s s.heap [] := ⟨hR, va_S.rf⟩
  have hl := lv_entry ([.ref a0]) (n := 3) (Nat.le_of_ble_eq_true rfl)
  rw [lg_entry_eq]
  generalize (lg_sl ([.ref a0]) ++ List.replicate (3 - (lg_sl ([.ref a0])).length) Slot.unset).toArray = ls at hl ⊢
  have hl : lv_has ls 3 [(0, .ref a0)] := hl
  unfold fX1_silent at hf
  have hf := (oi_c hf).2
  show wX1_silent p l e s m below meth c G h a0 res 0 0 s.heap ([]) (F0 m 0 ls [])
  refine lv_iconst (v := iI 0) hx hb dX1_silent_0 rfl ?_
  refine lv_istore_n (lv' := [(1, .int (iI 0)), (0, .ref a0)]) hx hb dX1_silent_1 rfl hl (by decide) rfl (fun ls hl => ?_)
  refine lv_iconst (v := iI 0) hx hb dX1_silent_2 rfl ?_
  refine lv_istore_n (lv' := [(2, .int (iI 0)), (1, .int (iI 0)), (0, .ref a0)]) hx hb dX1_silent_3 rfl hl (by decide) rfl (fun ls hl => ?_)
  obtain ⟨o1, ho1, hf⟩ := ob_s hf
  have hJ1 : ∀ (H : Heap) (locs : List Loc) (ls : Array Slot), ep_W G ep_cl h s H locs → lv_has ls 3 [(1, .int o1)] → wX1_silent p l e s m below meth c G h a0 res 0 0 H locs (F0 m 44 ls []) := by
    intro H locs ls hw hl
    refine lv_iload_n hx hb dX1_silent_44 rfl (lv_at hl 0 rfl) ?_
    exact ep_retiR hx hb hr hlocks hw hf dX1_silent_45
  have hL1 : ∀ (fu : Nat) (x1 : Int32) (x2 : Int32), fX1_silent_L4 h a0 fu x1 x2 = some o1 → ∀ (H : Heap) (locs : List Loc) (ls : Array Slot), ep_W G ep_cl h s H locs → lv_has ls 3 [(0, .ref a0), (1, .int x1), (2, .int x2)] → wX1_silent p l e s m below meth c G h a0 res 0 0 H locs (F0 m 4 ls []) := by
    intro fu
    induction fu with
    | zero => intro x1 x2 ho1; cases ho1
    | succ fu ih1 =>
      intro x1 x2 ho1 H locs ls hw hl
      rw [fX1_silent_L4] at ho1
      refine lv_iload_n hx hb dX1_silent_4 rfl (lv_at hl 2 rfl) ?_
      refine lv_aload_n hx hb dX1_silent_5 rfl (lv_at hl 0 rfl) ?_
      obtain ⟨v2, ev2, ho1⟩ := ob_s ho1
      refine ep_get (C := RX1) (T := TX1) (N := 11) (ci := 1) hx hb hts in_X1 hown hK hw rfl 7 (by decide) q166 (gI_f ev2) dX1_silent_6 ?_
      refine lv_icmp_ge (tgt := 44) hx hb dX1_silent_9 (by decide) (fun c3 => ?_) (fun c3 => ?_)
      · have ho1 := oi_t ho1 c3
        obtain rfl := Option.some.inj ho1
        exact hJ1 _ _ _ hw (lv_sub hl [1] rfl)
      · have ho1 := oi_f ho1 c3
        refine lv_iload_n hx hb dX1_silent_12 rfl (lv_at hl 1 rfl) ?_
        refine lv_aload_n hx hb dX1_silent_13 rfl (lv_at hl 0 rfl) ?_
        refine lv_iload_n hx hb dX1_silent_14 rfl (lv_at hl 2 rfl) ?_
        obtain ⟨v4, ev4, ho1⟩ := ob_s ho1
        refine ep_calli0 (va_runV (As := [.int x2]) (rest := [.int x1]) ⟨hx, hb, hml, hown, hts⟩ (metX1_isSold l G h a0 x2 ev4) (cwV 1 hts (lw_V q553 q554 q555 q86 q556) rfl rfl rfl hdX1_isSold ⟨Nat.le_of_ble_eq_true rfl, Nat.le_of_ble_eq_true rfl⟩) (ep_preV hK hZ hw rfl (ckX1_isSold ev4)) rfl rfl hl.1 rfl (lv_room (Nat.le_of_ble_eq_true rfl)) dX1_silent_15 ⟨Nat.le_of_ble_eq_true rfl, Nat.le_of_ble_eq_true rfl⟩) hw (fun H locs hw => ?_)
        obtain ⟨o5, ho5, ho1⟩ := ob_s ho1
        have hJ5 : ∀ (H : Heap) (locs : List Loc) (ls : Array Slot), ep_W G ep_cl h s H locs → lv_has ls 3 [(0, .ref a0), (2, .int x2)] → wX1_silent p l e s m below meth c G h a0 res 0 0 H locs (F0 m 36 ls [.int o5, .int x1]) := by
          intro H locs ls hw hl
          refine lv_ior hx hb dX1_silent_36 ?_
          refine lv_istore_n (lv' := [(1, .int (x1 ||| o5)), (0, .ref a0), (2, .int x2)]) hx hb dX1_silent_37 rfl hl (by decide) rfl (fun ls hl => ?_)
          refine lv_iinc (v := (x2 + iI 1)) (lv' := [(2, .int (x2 + iI 1)), (1, .int (x1 ||| o5)), (0, .ref a0)]) hx hb dX1_silent_38 hl (k := 2) rfl rfl (by decide) rfl (fun ls hl => ?_)
          refine lv_goto (tgt := 4) hx hb dX1_silent_41 (by decide) ?_
          exact ih1 _ _ ho1 _ _ _ hw (lv_sub hl [2, 1, 0] rfl)
        refine lv_if_ne (tgt := 35) hx hb dX1_silent_18 (by decide) (fun c6 => ?_) (fun c6 => ?_)
        · have ho5 := oi_f ho5 c6
          refine lv_iconst (v := iI 0) hx hb dX1_silent_35 rfl ?_
          obtain rfl := Option.some.inj ho5
          exact hJ5 _ _ _ hw (lv_sub hl [0, 2] rfl)
        · have ho5 := oi_t ho5 c6
          refine lv_aload_n hx hb dX1_silent_21 rfl (lv_at hl 0 rfl) ?_
          refine lv_iload_n hx hb dX1_silent_22 rfl (lv_at hl 2 rfl) ?_
          obtain ⟨v7, ev7, ho5⟩ := ob_s ho5
          refine ep_calli0 (va_runV (As := [.int x2]) (rest := [.int x1]) ⟨hx, hb, hml, hown, hts⟩ (metX1_isSilent l G h a0 x2 ev7) (cwV 1 hts (lw_V q557 q558 q559 q86 q560) rfl rfl rfl hdX1_isSilent ⟨Nat.le_of_ble_eq_true rfl, Nat.le_of_ble_eq_true rfl⟩) (ep_preV hK hZ hw rfl (ckX1_isSilent ev7)) rfl rfl hl.1 rfl (lv_room (Nat.le_of_ble_eq_true rfl)) dX1_silent_23 ⟨Nat.le_of_ble_eq_true rfl, Nat.le_of_ble_eq_true rfl⟩) hw (fun H locs hw => ?_)
          refine lv_if_eq (tgt := 35) hx hb dX1_silent_26 (by decide) (fun c8 => ?_) (fun c8 => ?_)
          · have ho5 := oi_t ho5 c8
            refine lv_iconst (v := iI 0) hx hb dX1_silent_35 rfl ?_
            obtain rfl := Option.some.inj ho5
            exact hJ5 _ _ _ hw (lv_sub hl [0, 2] rfl)
          · have ho5 := oi_f ho5 c8
            refine lv_iconst (v := iI 1) hx hb dX1_silent_29 rfl ?_
            refine lv_iload_n hx hb dX1_silent_30 rfl (lv_at hl 2 rfl) ?_
            refine lv_ishl hx hb dX1_silent_31 ?_
            refine lv_goto (tgt := 36) hx hb dX1_silent_32 (by decide) ?_
            obtain rfl := Option.some.inj ho5
            exact hJ5 _ _ _ hw (lv_sub hl [0, 2] rfl)
  exact hL1 FUEL _ _ ho1 _ _ _ hw (lv_sub hl [2, 1, 0] rfl)
theorem hdX0_rule : yX0_rule.cls = RX0 ∧ yX0_rule.cls ≠ "java/lang/invoke/MethodHandle" ∧ yX0_rule.cls ≠ "java/lang/invoke/VarHandle" ∧ (parseMethodDescriptor yX0_rule.desc).map (fun d => d.parameters.length) = some 1 := by decide +kernel
theorem ckX0_rule {h : Hp} {a0 : Nat} {x1 : Int32} {res : Int32} (hf : fX0_rule h a0 x1 = some res) : ep_cls h a0 = some 0 := by
  unfold fX0_rule at hf
  exact (oi_c hf).1
abbrev wX0_rule (p : Program) (l : Launch) (e : Env) (s : State) (m : MethodId) (below : List Frame) (meth : Method) (c : Code) (G : EG) (h : Hp) (a0 : Nat) (x1 : Int32) (res : Int32) (k9 n9 : Nat) (H : Heap) (locs : List Loc) (g : JFrame) : Prop := W p l e (headSpec (ws_ yX0_rule cX0_rule 2 (some .int)) ({ frames := 2, cells := 0, slots := 0, locals := 43 } : Room)).room s m ([.ref a0, .int x1] : List Value).toArray below meth c H locs k9 n9 (MQ below (ep_Qi G ep_cl h res) ([.ref a0, .int x1] : List Value).toArray s 0 0 (ep_A G)) g
set_option maxHeartbeats 4000000 in
theorem metX0_rule (l : Launch) (G : EG) (h : Hp) (a0 : Nat) (x1 : Int32) {res : Int32} (hf : fX0_rule h a0 x1 = some res) : Met l yX0_rule (ws_ yX0_rule cX0_rule 2 (some .int)) ({ frames := 2, cells := 0, slots := 0, locals := 43 } : Room) (ep_Pc G ep_cl h [.ref a0, .int x1]) (ep_Qi G ep_cl h res) 0 0 (ep_A G) := by
  refine Met.ofW (cc := cX0_rule) (maxL := 2) (ret := (some .int)) (by decide) rfl ?_
  intro p e s m args below meth c s₁ B hml hv
  obtain ⟨rfl, hR, hK, hZ⟩ := hv
  have hx := B.exec
  have hb := B.bytes
  have hr := B.returns
  have hlocks := B.notSynchronized
  have hts := atoms_spec (ws := (ws_ yX0_rule cX0_rule 2 (some .int))) B.pre
  have hts : ∀ w ∈ lw_all, w.before _ s = true := fun w h => hts w (List.mem_cons_of_mem _ h)
  have hown : s.vm.findClass RX0 = some m.cls := findClass_of_methodNamed B.named
  have hw : ep_W G ep_cl h s s.heap [] := ⟨hR, va_S.rf⟩
  have hl := lv_entry ([.ref a0, .int x1]) (n := 2) (Nat.le_of_ble_eq_true rfl)
  rw [lg_entry_eq]
  generalize (lg_sl ([.ref a0, .int x1]) ++ List.replicate (2 - (lg_sl ([.ref a0, .int x1])).length) Slot.unset).toArray = ls at hl ⊢
  have hl : lv_has ls 2 [(0, .ref a0), (1, .int x1)] := hl
  unfold fX0_rule at hf
  have hf := (oi_c hf).2
  show wX0_rule p l e s m below meth c G h a0 x1 res 0 0 s.heap ([]) (F0 m 0 ls [])
  refine lv_iload_n hx hb dX0_rule_0 rfl (lv_at hl 1 rfl) ?_
  by_cases c1 : x1 = iI 0
  · have hf := oi_t hf c1
    refine lv_tableIn (off := 47) (tgt := 48) hx hb dX0_rule_1 (by rw [ep_swIn c1 (by decide)]; decide) (by rw [ep_swIn c1 (by decide)]; decide) (by rw [ep_swIn c1 (by decide)]; rfl) (by decide) ?_
    refine lv_aload_n hx hb dX0_rule_48 rfl (lv_at hl 0 rfl) ?_
    obtain ⟨v9, ev9, hf⟩ := ob_s hf
    refine ep_get (C := RX0) (T := TX0) (N := 25) (ci := 0) hx hb hts in_X0 hown hK hw rfl 4 (by decide) q931 (gI_f ev9) dX0_rule_49 ?_
    exact ep_retiR hx hb hr hlocks hw hf dX0_rule_52
  · have hf := oi_f hf c1
    by_cases c2 : x1 = iI 1
    · have hf := oi_t hf c2
      refine lv_tableIn (off := 52) (tgt := 53) hx hb dX0_rule_1 (by rw [ep_swIn c2 (by decide)]; decide) (by rw [ep_swIn c2 (by decide)]; decide) (by rw [ep_swIn c2 (by decide)]; rfl) (by decide) ?_
      refine lv_aload_n hx hb dX0_rule_53 rfl (lv_at hl 0 rfl) ?_
      obtain ⟨r10, er10, hf⟩ := ob_s hf
      refine ep_get (C := RX0) (T := TX0) (N := 25) (ci := 0) hx hb hts in_X0 hown hK hw rfl 3 (by decide) q930 (gR_f er10) dX0_rule_54 ?_
      obtain ⟨v11, ev11, hf⟩ := ob_s hf
      refine ep_getN (C := RX1) (T := TX1) (N := 11) (ci := 1) hx hb hts in_X1 hown hK hw rfl 7 (by decide) q167 (gI_f ev11) dX0_rule_57 ?_
      exact ep_retiR hx hb hr hlocks hw hf dX0_rule_60
    · have hf := oi_f hf c2
      by_cases c3 : x1 = iI 2
      · have hf := oi_t hf c3
        refine lv_tableIn (off := 60) (tgt := 61) hx hb dX0_rule_1 (by rw [ep_swIn c3 (by decide)]; decide) (by rw [ep_swIn c3 (by decide)]; decide) (by rw [ep_swIn c3 (by decide)]; rfl) (by decide) ?_
        refine lv_aload_n hx hb dX0_rule_61 rfl (lv_at hl 0 rfl) ?_
        obtain ⟨v12, ev12, hf⟩ := ob_s hf
        refine ep_get (C := RX0) (T := TX0) (N := 25) (ci := 0) hx hb hts in_X0 hown hK hw rfl 6 (by decide) q933 (gI_f ev12) dX0_rule_62 ?_
        exact ep_retiR hx hb hr hlocks hw hf dX0_rule_65
      · have hf := oi_f hf c3
        by_cases c4 : x1 = iI 3
        · have hf := oi_t hf c4
          refine lv_tableIn (off := 65) (tgt := 66) hx hb dX0_rule_1 (by rw [ep_swIn c4 (by decide)]; decide) (by rw [ep_swIn c4 (by decide)]; decide) (by rw [ep_swIn c4 (by decide)]; rfl) (by decide) ?_
          refine lv_aload_n hx hb dX0_rule_66 rfl (lv_at hl 0 rfl) ?_
          obtain ⟨r13, er13, hf⟩ := ob_s hf
          refine ep_get (C := RX0) (T := TX0) (N := 25) (ci := 0) hx hb hts in_X0 hown hK hw rfl 3 (by decide) q930 (gR_f er13) dX0_rule_67 ?_
          obtain ⟨v14, ev14, hf⟩ := ob_s hf
          refine ep_getN (C := RX1) (T := TX1) (N := 11) (ci := 1) hx hb hts in_X1 hown hK hw rfl 9 (by decide) q172 (gI_f ev14) dX0_rule_70 ?_
          exact ep_retiR hx hb hr hlocks hw hf dX0_rule_73
        · have hf := oi_f hf c4
          by_cases c5 : x1 = iI 4
          · have hf := oi_t hf c5
            refine lv_tableIn (off := 73) (tgt := 74) hx hb dX0_rule_1 (by rw [ep_swIn c5 (by decide)]; decide) (by rw [ep_swIn c5 (by decide)]; decide) (by rw [ep_swIn c5 (by decide)]; rfl) (by decide) ?_
            refine lv_aload_n hx hb dX0_rule_74 rfl (lv_at hl 0 rfl) ?_
            obtain ⟨r15, er15, hf⟩ := ob_s hf
            refine ep_get (C := RX0) (T := TX0) (N := 25) (ci := 0) hx hb hts in_X0 hown hK hw rfl 3 (by decide) q930 (gR_f er15) dX0_rule_75 ?_
            obtain ⟨v16, ev16, hf⟩ := ob_s hf
            refine ep_getN (C := RX1) (T := TX1) (N := 11) (ci := 1) hx hb hts in_X1 hown hK hw rfl 10 (by decide) q174 (gI_f ev16) dX0_rule_78 ?_
            exact ep_retiR hx hb hr hlocks hw hf dX0_rule_81
          · have hf := oi_f hf c5
            by_cases c6 : x1 = iI 5
            · have hf := oi_t hf c6
              refine lv_tableIn (off := 81) (tgt := 82) hx hb dX0_rule_1 (by rw [ep_swIn c6 (by decide)]; decide) (by rw [ep_swIn c6 (by decide)]; decide) (by rw [ep_swIn c6 (by decide)]; rfl) (by decide) ?_
              refine lv_aload_n hx hb dX0_rule_82 rfl (lv_at hl 0 rfl) ?_
              obtain ⟨r17, er17, hf⟩ := ob_s hf
              refine ep_get (C := RX0) (T := TX0) (N := 25) (ci := 0) hx hb hts in_X0 hown hK hw rfl 3 (by decide) q930 (gR_f er17) dX0_rule_83 ?_
              refine lv_bipush (v := iI (-4)) hx hb dX0_rule_86 (by decide) ?_
              obtain ⟨v18, ev18, hf⟩ := ob_s hf
              refine ep_calli0 (va_runV (As := [.int (iI (-4))]) (rest := []) ⟨hx, hb, hml, hown, hts⟩ (metX1_in l G h r17 (iI (-4)) ev18) (cwV 1 hts (lw_V q548 q526 q527 q86 q528) rfl rfl rfl hdX1_in ⟨Nat.le_of_ble_eq_true rfl, Nat.le_of_ble_eq_true rfl⟩) (ep_preV hK hZ hw rfl (ckX1_in ev18)) rfl rfl hl.1 rfl (lv_room (Nat.le_of_ble_eq_true rfl)) dX0_rule_88 ⟨Nat.le_of_ble_eq_true rfl, Nat.le_of_ble_eq_true rfl⟩) hw (fun H locs hw => ?_)
              exact ep_retiR hx hb hr hlocks hw hf dX0_rule_91
            · have hf := oi_f hf c6
              by_cases c7 : x1 = iI 6
              · have hf := oi_t hf c7
                refine lv_tableIn (off := 91) (tgt := 92) hx hb dX0_rule_1 (by rw [ep_swIn c7 (by decide)]; decide) (by rw [ep_swIn c7 (by decide)]; decide) (by rw [ep_swIn c7 (by decide)]; rfl) (by decide) ?_
                refine lv_aload_n hx hb dX0_rule_92 rfl (lv_at hl 0 rfl) ?_
                obtain ⟨r19, er19, hf⟩ := ob_s hf
                refine ep_get (C := RX0) (T := TX0) (N := 25) (ci := 0) hx hb hts in_X0 hown hK hw rfl 3 (by decide) q930 (gR_f er19) dX0_rule_93 ?_
                obtain ⟨v20, ev20, hf⟩ := ob_s hf
                refine ep_calli0 (va_runV (As := []) (rest := []) ⟨hx, hb, hml, hown, hts⟩ (metX1_silent l G h r19 ev20) (cwV 0 hts (lw_V q549 q550 q551 q86 q552) rfl rfl rfl hdX1_silent ⟨Nat.le_of_ble_eq_true rfl, Nat.le_of_ble_eq_true rfl⟩) (ep_preV hK hZ hw rfl (ckX1_silent ev20)) rfl rfl hl.1 rfl (lv_room (Nat.le_of_ble_eq_true rfl)) dX0_rule_96 ⟨Nat.le_of_ble_eq_true rfl, Nat.le_of_ble_eq_true rfl⟩) hw (fun H locs hw => ?_)
                exact ep_retiR hx hb hr hlocks hw hf dX0_rule_99
              · have hf := oi_f hf c7
                by_cases c8 : x1 = iI 7
                · have hf := oi_t hf c8
                  refine lv_tableIn (off := 99) (tgt := 100) hx hb dX0_rule_1 (by rw [ep_swIn c8 (by decide)]; decide) (by rw [ep_swIn c8 (by decide)]; decide) (by rw [ep_swIn c8 (by decide)]; rfl) (by decide) ?_
                  refine lv_aload_n hx hb dX0_rule_100 rfl (lv_at hl 0 rfl) ?_
                  obtain ⟨r21, er21, hf⟩ := ob_s hf
                  refine ep_get (C := RX0) (T := TX0) (N := 25) (ci := 0) hx hb hts in_X0 hown hK hw rfl 3 (by decide) q930 (gR_f er21) dX0_rule_101 ?_
                  obtain ⟨v22, ev22, hf⟩ := ob_s hf
                  refine ep_getN (C := RX1) (T := TX1) (N := 11) (ci := 1) hx hb hts in_X1 hown hK hw rfl 8 (by decide) q170 (gI_f ev22) dX0_rule_104 ?_
                  exact ep_retiR hx hb hr hlocks hw hf dX0_rule_107
                · have hf := oi_f hf c8
                  refine lv_tableOut (tgt := 108) hx hb dX0_rule_1 (ep_swOut (n := 8) (x := x1) (by decide) (lt_s (lt_s (lt_s (lt_s (lt_s (lt_s (lt_s (lt_s lt_0 c1) c2) c3) c4) c5) c6) c7) c8)) (by decide) ?_
                  refine lv_iconst (v := iI (-1)) hx hb dX0_rule_108 rfl ?_
                  exact ep_retiR hx hb hr hlocks hw hf dX0_rule_109
theorem hdX0_isPen : yX0_isPen.cls = RX0 ∧ yX0_isPen.cls ≠ "java/lang/invoke/MethodHandle" ∧ yX0_isPen.cls ≠ "java/lang/invoke/VarHandle" ∧ (parseMethodDescriptor yX0_isPen.desc).map (fun d => d.parameters.length) = some 1 := by decide +kernel
theorem ckX0_isPen {h : Hp} {a0 : Nat} {x1 : Int32} {res : Int32} (hf : fX0_isPen h a0 x1 = some res) : ep_cls h a0 = some 0 := by
  unfold fX0_isPen at hf
  exact (oi_c hf).1
abbrev wX0_isPen (p : Program) (l : Launch) (e : Env) (s : State) (m : MethodId) (below : List Frame) (meth : Method) (c : Code) (G : EG) (h : Hp) (a0 : Nat) (x1 : Int32) (res : Int32) (k9 n9 : Nat) (H : Heap) (locs : List Loc) (g : JFrame) : Prop := W p l e (headSpec (ws_ yX0_isPen cX0_isPen 2 (some .boolean)) ({ frames := 1, cells := 0, slots := 0, locals := 25 } : Room)).room s m ([.ref a0, .int x1] : List Value).toArray below meth c H locs k9 n9 (MQ below (ep_Qi G ep_cl h res) ([.ref a0, .int x1] : List Value).toArray s 0 0 (ep_A G)) g
set_option maxHeartbeats 4000000 in
theorem metX0_isPen (l : Launch) (G : EG) (h : Hp) (a0 : Nat) (x1 : Int32) {res : Int32} (hf : fX0_isPen h a0 x1 = some res) : Met l yX0_isPen (ws_ yX0_isPen cX0_isPen 2 (some .boolean)) ({ frames := 1, cells := 0, slots := 0, locals := 25 } : Room) (ep_Pc G ep_cl h [.ref a0, .int x1]) (ep_Qi G ep_cl h res) 0 0 (ep_A G) := by
  refine Met.ofW (cc := cX0_isPen) (maxL := 2) (ret := (some .boolean)) (by decide) rfl ?_
  intro p e s m args below meth c s₁ B hml hv
  obtain ⟨rfl, hR, hK, hZ⟩ := hv
  have hx := B.exec
  have hb := B.bytes
  have hr := B.returns
  have hlocks := B.notSynchronized
  have hts := atoms_spec (ws := (ws_ yX0_isPen cX0_isPen 2 (some .boolean))) B.pre
  have hts : ∀ w ∈ lw_all, w.before _ s = true := fun w h => hts w (List.mem_cons_of_mem _ h)
  have hown : s.vm.findClass RX0 = some m.cls := findClass_of_methodNamed B.named
  have hw : ep_W G ep_cl h s s.heap [] := ⟨hR, va_S.rf⟩
  have hl := lv_entry ([.ref a0, .int x1]) (n := 2) (Nat.le_of_ble_eq_true rfl)
  rw [lg_entry_eq]
  generalize (lg_sl ([.ref a0, .int x1]) ++ List.replicate (2 - (lg_sl ([.ref a0, .int x1])).length) Slot.unset).toArray = ls at hl ⊢
  have hl : lv_has ls 2 [(0, .ref a0), (1, .int x1)] := hl
  unfold fX0_isPen at hf
  have hf := (oi_c hf).2
  show wX0_isPen p l e s m below meth c G h a0 x1 res 0 0 s.heap ([]) (F0 m 0 ls [])
  refine lv_iload_n hx hb dX0_isPen_0 rfl (lv_at hl 1 rfl) ?_
  refine lv_i2l (v := x1.toInt64) hx hb dX0_isPen_1 rfl ?_
  refine lv_lconst (v := lI 0) hx hb dX0_isPen_2 (by decide) ?_
  refine lv_aload_n hx hb dX0_isPen_3 rfl (lv_at hl 0 rfl) ?_
  obtain ⟨v1, ev1, hf⟩ := ob_s hf
  refine ep_get (C := RX0) (T := TX0) (N := 25) (ci := 0) hx hb hts in_X0 hown hK hw rfl 4 (by decide) q931 (gI_f ev1) dX0_isPen_4 ?_
  refine lv_iconst (v := iI 1) hx hb dX0_isPen_7 rfl ?_
  refine lv_isub hx hb dX0_isPen_8 ?_
  refine lv_i2l (v := (v1 - (iI 1)).toInt64) hx hb dX0_isPen_9 rfl ?_
  obtain ⟨v2, ev2, hf⟩ := ob_s hf
  refine ep_calli0 (va_runS (As := [.long x1.toInt64, .long (lI 0), .long ((v1 - (iI 1)).toInt64)]) (rest := []) ⟨hx, hb, hml, hown, hts⟩ (metX0_isIn l G h x1.toInt64 (lI 0) ((v1 - (iI 1)).toInt64) ev2) (va_cwS 3 hts (lw_S q114 q115 q85 q116) rfl rfl rfl hsX0_isIn ⟨Nat.le_of_ble_eq_true rfl, Nat.le_of_ble_eq_true rfl⟩) (ep_preS hK hZ hw) rfl rfl hl.1 rfl (lv_room (Nat.le_of_ble_eq_true rfl)) dX0_isPen_10 ⟨Nat.le_of_ble_eq_true rfl, Nat.le_of_ble_eq_true rfl⟩) hw (fun H locs hw => ?_)
  obtain ⟨z, ez, hf⟩ := ob_s hf
  obtain ⟨hz, hn⟩ := ckZ_s ez
  rw [hz] at hf
  exact ep_retzR hx hb hr hn hlocks hw hf dX0_isPen_13
theorem hdX0_pen : yX0_pen.cls = RX0 ∧ yX0_pen.cls ≠ "java/lang/invoke/MethodHandle" ∧ yX0_pen.cls ≠ "java/lang/invoke/VarHandle" ∧ (parseMethodDescriptor yX0_pen.desc).map (fun d => d.parameters.length) = some 2 := by decide +kernel
theorem ckX0_pen {h : Hp} {a0 : Nat} {x1 : Int32} {x2 : Int32} {res : Int32} (hf : fX0_pen h a0 x1 x2 = some res) : ep_cls h a0 = some 0 := by
  unfold fX0_pen at hf
  exact (oi_c hf).1
abbrev wX0_pen (p : Program) (l : Launch) (e : Env) (s : State) (m : MethodId) (below : List Frame) (meth : Method) (c : Code) (G : EG) (h : Hp) (a0 : Nat) (x1 : Int32) (x2 : Int32) (res : Int32) (k9 n9 : Nat) (H : Heap) (locs : List Loc) (g : JFrame) : Prop := W p l e (headSpec (ws_ yX0_pen cX0_pen 3 (some .int)) ({ frames := 2, cells := 0, slots := 0, locals := 46 } : Room)).room s m ([.ref a0, .int x1, .int x2] : List Value).toArray below meth c H locs k9 n9 (MQ below (ep_Qi G ep_cl h res) ([.ref a0, .int x1, .int x2] : List Value).toArray s 0 0 (ep_A G)) g
set_option maxHeartbeats 4000000 in
theorem metX0_pen (l : Launch) (G : EG) (h : Hp) (a0 : Nat) (x1 : Int32) (x2 : Int32) {res : Int32} (hf : fX0_pen h a0 x1 x2 = some res) : Met l yX0_pen (ws_ yX0_pen cX0_pen 3 (some .int)) ({ frames := 2, cells := 0, slots := 0, locals := 46 } : Room) (ep_Pc G ep_cl h [.ref a0, .int x1, .int x2]) (ep_Qi G ep_cl h res) 0 0 (ep_A G) := by
  refine Met.ofW (cc := cX0_pen) (maxL := 3) (ret := (some .int)) (by decide) rfl ?_
  intro p e s m args below meth c s₁ B hml hv
  obtain ⟨rfl, hR, hK, hZ⟩ := hv
  have hx := B.exec
  have hb := B.bytes
  have hr := B.returns
  have hlocks := B.notSynchronized
  have hts := atoms_spec (ws := (ws_ yX0_pen cX0_pen 3 (some .int))) B.pre
  have hts : ∀ w ∈ lw_all, w.before _ s = true := fun w h => hts w (List.mem_cons_of_mem _ h)
  have hown : s.vm.findClass RX0 = some m.cls := findClass_of_methodNamed B.named
  have hw : ep_W G ep_cl h s s.heap [] := ⟨hR, va_S.rf⟩
  have hl := lv_entry ([.ref a0, .int x1, .int x2]) (n := 3) (Nat.le_of_ble_eq_true rfl)
  rw [lg_entry_eq]
  generalize (lg_sl ([.ref a0, .int x1, .int x2]) ++ List.replicate (3 - (lg_sl ([.ref a0, .int x1, .int x2])).length) Slot.unset).toArray = ls at hl ⊢
  have hl : lv_has ls 3 [(0, .ref a0), (1, .int x1), (2, .int x2)] := hl
  unfold fX0_pen at hf
  have hf := (oi_c hf).2
  show wX0_pen p l e s m below meth c G h a0 x1 x2 res 0 0 s.heap ([]) (F0 m 0 ls [])
  refine lv_aload_n hx hb dX0_pen_0 rfl (lv_at hl 0 rfl) ?_
  refine lv_iload_n hx hb dX0_pen_1 rfl (lv_at hl 1 rfl) ?_
  obtain ⟨v1, ev1, hf⟩ := ob_s hf
  refine ep_calli0 (va_runV (As := [.int x1]) (rest := []) ⟨hx, hb, hml, hown, hts⟩ (metX0_isPen l G h a0 x1 ev1) (cwV 1 hts (lw_V q565 q567 qs14 q85 q569) rfl rfl rfl hdX0_isPen ⟨Nat.le_of_ble_eq_true rfl, Nat.le_of_ble_eq_true rfl⟩) (ep_preV hK hZ hw rfl (ckX0_isPen ev1)) rfl rfl hl.1 rfl (lv_room (Nat.le_of_ble_eq_true rfl)) dX0_pen_2 ⟨Nat.le_of_ble_eq_true rfl, Nat.le_of_ble_eq_true rfl⟩) hw (fun H locs hw => ?_)
  refine lv_if_eq (tgt := 20) hx hb dX0_pen_5 (by decide) (fun c2 => ?_) (fun c2 => ?_)
  · have hf := oi_t hf c2
    refine lv_iconst (v := iI (-1)) hx hb dX0_pen_20 rfl ?_
    refine lv_goto (tgt := 65) hx hb dX0_pen_21 (by decide) ?_
    exact ep_retiR hx hb hr hlocks hw hf dX0_pen_65
  · have hf := oi_f hf c2
    refine lv_iload_n hx hb dX0_pen_8 rfl (lv_at hl 2 rfl) ?_
    refine lv_i2l (v := x2.toInt64) hx hb dX0_pen_9 rfl ?_
    refine lv_lconst (v := lI 0) hx hb dX0_pen_10 (by decide) ?_
    refine lv_ldc2 (v := (2 : Int64)) hx hb hown (hts _ q570) dX0_pen_11 ?_
    obtain ⟨v3, ev3, hf⟩ := ob_s hf
    refine ep_calli0 (va_runS (As := [.long x2.toInt64, .long (lI 0), .long (2 : Int64)]) (rest := []) ⟨hx, hb, hml, hown, hts⟩ (metX0_isIn l G h x2.toInt64 (lI 0) (2 : Int64) ev3) (va_cwS 3 hts (lw_S q114 q115 q85 q116) rfl rfl rfl hsX0_isIn ⟨Nat.le_of_ble_eq_true rfl, Nat.le_of_ble_eq_true rfl⟩) (ep_preS hK hZ hw) rfl rfl hl.1 rfl (lv_room (Nat.le_of_ble_eq_true rfl)) dX0_pen_14 ⟨Nat.le_of_ble_eq_true rfl, Nat.le_of_ble_eq_true rfl⟩) hw (fun H locs hw => ?_)
    refine lv_if_ne (tgt := 24) hx hb dX0_pen_17 (by decide) (fun c4 => ?_) (fun c4 => ?_)
    · have hf := oi_f hf c4
      refine lv_iload_n hx hb dX0_pen_24 rfl (lv_at hl 2 rfl) ?_
      refine lv_if_ne (tgt := 40) hx hb dX0_pen_25 (by decide) (fun c5 => ?_) (fun c5 => ?_)
      · have hf := oi_f hf c5
        refine lv_iload_n hx hb dX0_pen_40 rfl (lv_at hl 2 rfl) ?_
        refine lv_iconst (v := iI 1) hx hb dX0_pen_41 rfl ?_
        refine lv_icmp_ne (tgt := 57) hx hb dX0_pen_42 (by decide) (fun c6 => ?_) (fun c6 => ?_)
        · have hf := oi_f hf c6
          refine lv_aload_n hx hb dX0_pen_57 rfl (lv_at hl 0 rfl) ?_
          obtain ⟨r7, er7, hf⟩ := ob_s hf
          refine ep_get (C := RX0) (T := TX0) (N := 25) (ci := 0) hx hb hts in_X0 hown hK hw rfl 3 (by decide) q930 (gR_f er7) dX0_pen_58 ?_
          refine lv_iload_n hx hb dX0_pen_61 rfl (lv_at hl 1 rfl) ?_
          obtain ⟨v8, ev8, hf⟩ := ob_s hf
          refine ep_calli0 (va_runV (As := [.int x1]) (rest := []) ⟨hx, hb, hml, hown, hts⟩ (metX1_in l G h r7 x1 ev8) (cwV 1 hts (lw_V q548 q526 q527 q86 q528) rfl rfl rfl hdX1_in ⟨Nat.le_of_ble_eq_true rfl, Nat.le_of_ble_eq_true rfl⟩) (ep_preV hK hZ hw rfl (ckX1_in ev8)) rfl rfl hl.1 rfl (lv_room (Nat.le_of_ble_eq_true rfl)) dX0_pen_62 ⟨Nat.le_of_ble_eq_true rfl, Nat.le_of_ble_eq_true rfl⟩) hw (fun H locs hw => ?_)
          exact ep_retiR hx hb hr hlocks hw hf dX0_pen_65
        · have hf := oi_t hf c6
          refine lv_aload_n hx hb dX0_pen_45 rfl (lv_at hl 0 rfl) ?_
          obtain ⟨r9, er9, hf⟩ := ob_s hf
          refine ep_get (C := RX0) (T := TX0) (N := 25) (ci := 0) hx hb hts in_X0 hown hK hw rfl 3 (by decide) q930 (gR_f er9) dX0_pen_46 ?_
          obtain ⟨r10, er10, hf⟩ := ob_s hf
          refine ep_getN (C := RX1) (T := TX1) (N := 11) (ci := 1) hx hb hts in_X1 hown hK hw rfl 1 (by decide) q150 (gR_f er10) dX0_pen_49 ?_
          refine lv_iload_n hx hb dX0_pen_52 rfl (lv_at hl 1 rfl) ?_
          obtain ⟨v11, ev11, hf⟩ := ob_s hf
          refine ep_iald hx hb hK hw ev11 dX0_pen_53 ?_
          refine lv_goto (tgt := 65) hx hb dX0_pen_54 (by decide) ?_
          exact ep_retiR hx hb hr hlocks hw hf dX0_pen_65
      · have hf := oi_t hf c5
        refine lv_aload_n hx hb dX0_pen_28 rfl (lv_at hl 0 rfl) ?_
        obtain ⟨r12, er12, hf⟩ := ob_s hf
        refine ep_get (C := RX0) (T := TX0) (N := 25) (ci := 0) hx hb hts in_X0 hown hK hw rfl 3 (by decide) q930 (gR_f er12) dX0_pen_29 ?_
        obtain ⟨r13, er13, hf⟩ := ob_s hf
        refine ep_getN (C := RX1) (T := TX1) (N := 11) (ci := 1) hx hb hts in_X1 hown hK hw rfl 0 (by decide) q146 (gR_f er13) dX0_pen_32 ?_
        refine lv_iload_n hx hb dX0_pen_35 rfl (lv_at hl 1 rfl) ?_
        obtain ⟨v14, ev14, hf⟩ := ob_s hf
        refine ep_iald hx hb hK hw ev14 dX0_pen_36 ?_
        refine lv_goto (tgt := 65) hx hb dX0_pen_37 (by decide) ?_
        exact ep_retiR hx hb hr hlocks hw hf dX0_pen_65
    · have hf := oi_t hf c4
      refine lv_iconst (v := iI (-1)) hx hb dX0_pen_20 rfl ?_
      refine lv_goto (tgt := 65) hx hb dX0_pen_21 (by decide) ?_
      exact ep_retiR hx hb hr hlocks hw hf dX0_pen_65
theorem hdX0_isEcho : yX0_isEcho.cls = RX0 ∧ yX0_isEcho.cls ≠ "java/lang/invoke/MethodHandle" ∧ yX0_isEcho.cls ≠ "java/lang/invoke/VarHandle" ∧ (parseMethodDescriptor yX0_isEcho.desc).map (fun d => d.parameters.length) = some 1 := by decide +kernel
theorem ckX0_isEcho {h : Hp} {a0 : Nat} {x1 : Int32} {res : Int32} (hf : fX0_isEcho h a0 x1 = some res) : ep_cls h a0 = some 0 := by
  unfold fX0_isEcho at hf
  exact (oi_c hf).1
abbrev wX0_isEcho (p : Program) (l : Launch) (e : Env) (s : State) (m : MethodId) (below : List Frame) (meth : Method) (c : Code) (G : EG) (h : Hp) (a0 : Nat) (x1 : Int32) (res : Int32) (k9 n9 : Nat) (H : Heap) (locs : List Loc) (g : JFrame) : Prop := W p l e (headSpec (ws_ yX0_isEcho cX0_isEcho 2 (some .boolean)) ({ frames := 1, cells := 0, slots := 0, locals := 25 } : Room)).room s m ([.ref a0, .int x1] : List Value).toArray below meth c H locs k9 n9 (MQ below (ep_Qi G ep_cl h res) ([.ref a0, .int x1] : List Value).toArray s 0 0 (ep_A G)) g
set_option maxHeartbeats 4000000 in
theorem metX0_isEcho (l : Launch) (G : EG) (h : Hp) (a0 : Nat) (x1 : Int32) {res : Int32} (hf : fX0_isEcho h a0 x1 = some res) : Met l yX0_isEcho (ws_ yX0_isEcho cX0_isEcho 2 (some .boolean)) ({ frames := 1, cells := 0, slots := 0, locals := 25 } : Room) (ep_Pc G ep_cl h [.ref a0, .int x1]) (ep_Qi G ep_cl h res) 0 0 (ep_A G) := by
  refine Met.ofW (cc := cX0_isEcho) (maxL := 2) (ret := (some .boolean)) (by decide) rfl ?_
  intro p e s m args below meth c s₁ B hml hv
  obtain ⟨rfl, hR, hK, hZ⟩ := hv
  have hx := B.exec
  have hb := B.bytes
  have hr := B.returns
  have hlocks := B.notSynchronized
  have hts := atoms_spec (ws := (ws_ yX0_isEcho cX0_isEcho 2 (some .boolean))) B.pre
  have hts : ∀ w ∈ lw_all, w.before _ s = true := fun w h => hts w (List.mem_cons_of_mem _ h)
  have hown : s.vm.findClass RX0 = some m.cls := findClass_of_methodNamed B.named
  have hw : ep_W G ep_cl h s s.heap [] := ⟨hR, va_S.rf⟩
  have hl := lv_entry ([.ref a0, .int x1]) (n := 2) (Nat.le_of_ble_eq_true rfl)
  rw [lg_entry_eq]
  generalize (lg_sl ([.ref a0, .int x1]) ++ List.replicate (2 - (lg_sl ([.ref a0, .int x1])).length) Slot.unset).toArray = ls at hl ⊢
  have hl : lv_has ls 2 [(0, .ref a0), (1, .int x1)] := hl
  unfold fX0_isEcho at hf
  have hf := (oi_c hf).2
  show wX0_isEcho p l e s m below meth c G h a0 x1 res 0 0 s.heap ([]) (F0 m 0 ls [])
  refine lv_iload_n hx hb dX0_isEcho_0 rfl (lv_at hl 1 rfl) ?_
  refine lv_i2l (v := x1.toInt64) hx hb dX0_isEcho_1 rfl ?_
  refine lv_lconst (v := lI 0) hx hb dX0_isEcho_2 (by decide) ?_
  refine lv_aload_n hx hb dX0_isEcho_3 rfl (lv_at hl 0 rfl) ?_
  obtain ⟨r1, er1, hf⟩ := ob_s hf
  refine ep_get (C := RX0) (T := TX0) (N := 25) (ci := 0) hx hb hts in_X0 hown hK hw rfl 3 (by decide) q930 (gR_f er1) dX0_isEcho_4 ?_
  obtain ⟨v2, ev2, hf⟩ := ob_s hf
  refine ep_getN (C := RX1) (T := TX1) (N := 11) (ci := 1) hx hb hts in_X1 hown hK hw rfl 7 (by decide) q167 (gI_f ev2) dX0_isEcho_7 ?_
  refine lv_iconst (v := iI 1) hx hb dX0_isEcho_10 rfl ?_
  refine lv_isub hx hb dX0_isEcho_11 ?_
  refine lv_i2l (v := (v2 - (iI 1)).toInt64) hx hb dX0_isEcho_12 rfl ?_
  obtain ⟨v3, ev3, hf⟩ := ob_s hf
  refine ep_calli0 (va_runS (As := [.long x1.toInt64, .long (lI 0), .long ((v2 - (iI 1)).toInt64)]) (rest := []) ⟨hx, hb, hml, hown, hts⟩ (metX0_isIn l G h x1.toInt64 (lI 0) ((v2 - (iI 1)).toInt64) ev3) (va_cwS 3 hts (lw_S q114 q115 q85 q116) rfl rfl rfl hsX0_isIn ⟨Nat.le_of_ble_eq_true rfl, Nat.le_of_ble_eq_true rfl⟩) (ep_preS hK hZ hw) rfl rfl hl.1 rfl (lv_room (Nat.le_of_ble_eq_true rfl)) dX0_isEcho_13 ⟨Nat.le_of_ble_eq_true rfl, Nat.le_of_ble_eq_true rfl⟩) hw (fun H locs hw => ?_)
  obtain ⟨z, ez, hf⟩ := ob_s hf
  obtain ⟨hz, hn⟩ := ckZ_s ez
  rw [hz] at hf
  exact ep_retzR hx hb hr hn hlocks hw hf dX0_isEcho_16
