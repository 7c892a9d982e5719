/-! walks (printed by gen.py) -/
set_option maxRecDepth 100000
theorem hdX4_findKept : yX4_findKept.cls = RX4 ∧ yX4_findKept.cls ≠ "java/lang/invoke/MethodHandle" ∧ yX4_findKept.cls ≠ "java/lang/invoke/VarHandle" ∧ (parseMethodDescriptor yX4_findKept.desc).map (fun d => d.parameters.length) = some 3 := by decide +kernel
theorem ckX4_findKept {h : Hp} {a0 : Nat} {x1 : Int32} {x2 : Int32} {x3 : Int32} {res : Hp} (hf : fX4_findKept h a0 x1 x2 x3 = some res) : ep_cls h a0 = some 4 := by
  unfold fX4_findKept at hf
  exact (oi_c hf).1
abbrev wX4_findKept (p : Program) (l : Launch) (e : Env) (s : State) (m : MethodId) (below : List Frame) (meth : Method) (c : Code) (G : EG) (h : Hp) (a0 : Nat) (x1 : Int32) (x2 : Int32) (x3 : Int32) (res : Hp) (k9 n9 : Nat) (H : Heap) (locs : List Loc) (g : JFrame) : Prop := W p l e (headSpec (ws_ yX4_findKept cX4_findKept 11 none) ({ frames := 1, cells := 0, slots := 0, locals := 20 } : Room)).room s m ([.ref a0, .int x1, .int x2, .int x3] : List Value).toArray below meth c H locs k9 n9 (MQ below (ep_Qv G ep_cl res) ([.ref a0, .int x1, .int x2, .int x3] : List Value).toArray s 0 0 (ep_A G)) g
set_option maxHeartbeats 4000000 in
theorem metX4_findKept (l : Launch) (G : EG) (h : Hp) (a0 : Nat) (x1 : Int32) (x2 : Int32) (x3 : Int32) {res : Hp} (hf : fX4_findKept h a0 x1 x2 x3 = some res) : Met l yX4_findKept (ws_ yX4_findKept cX4_findKept 11 none) ({ frames := 1, cells := 0, slots := 0, locals := 20 } : Room) (ep_Pc G ep_cl h [.ref a0, .int x1, .int x2, .int x3]) (ep_Qv G ep_cl res) 0 0 (ep_A G) := by
  refine Met.ofW (cc := cX4_findKept) (maxL := 11) (ret := none) (by decide) rfl ?_
  intro p e s m args below meth c s₁ B hml hv
  obtain ⟨rfl, hR, hK, hZ⟩ := hv
  have hx := B.exec
  have hb := B.bytes
  have hr := B.returns
  have hlocks := B.notSynchronized
  have hts := atoms_spec (ws := (ws_ yX4_findKept cX4_findKept 11 none)) B.pre
  have hts : ∀ w ∈ lw_all, w.before _ s = true := fun w h => hts w (List.mem_cons_of_mem _ h)
  have hown : s.vm.findClass RX4 = some m.cls := findClass_of_methodNamed B.named
  have hw : ep_W G ep_cl h s s.heap [] := ⟨hR, va_S.rf⟩
  have hl := lv_entry ([.ref a0, .int x1, .int x2, .int x3]) (n := 11) (Nat.le_of_ble_eq_true rfl)
  rw [lg_entry_eq]
  generalize (lg_sl ([.ref a0, .int x1, .int x2, .int x3]) ++ List.replicate (11 - (lg_sl ([.ref a0, .int x1, .int x2, .int x3])).length) Slot.unset).toArray = ls at hl ⊢
  have hl : lv_has ls 11 [(0, .ref a0), (1, .int x1), (2, .int x2), (3, .int x3)] := hl
  unfold fX4_findKept at hf
  have hf := (oi_c hf).2
  show wX4_findKept p l e s m below meth c G h a0 x1 x2 x3 res 0 0 s.heap ([]) (F0 m 0 ls [])
  refine lv_aload_n hx hb dX4_findKept_0 rfl (lv_at hl 0 rfl) ?_
  obtain ⟨r1, er1, hf⟩ := ob_s hf
  refine ep_get (C := RX4) (T := TX4) (N := 32) (ci := 4) hx hb hts in_X4 hown hK hw rfl 0 (by decide) q1139 (gR_f er1) dX4_findKept_1 ?_
  refine lv_bipush (v := iI 8) hx hb dX4_findKept_4 (by decide) ?_
  refine lv_bipush (v := iI 9) hx hb dX4_findKept_6 (by decide) ?_
  refine lv_iload_n hx hb dX4_findKept_8 rfl (lv_at hl 2 rfl) ?_
  refine lv_imul hx hb dX4_findKept_9 ?_
  refine lv_iadd hx hb dX4_findKept_10 ?_
  refine lv_iconst (v := iI 3) hx hb dX4_findKept_11 rfl ?_
  refine lv_iadd hx hb dX4_findKept_12 ?_
  obtain ⟨v2, ev2, hf⟩ := ob_s hf
  refine ep_iald hx hb hK hw ev2 dX4_findKept_13 ?_
  refine lv_istore (lv' := [(4, .int v2), (0, .ref a0), (1, .int x1), (2, .int x2), (3, .int x3)]) hx hb dX4_findKept_14 hl (by decide) rfl (fun ls hl => ?_)
  refine lv_aload_n hx hb dX4_findKept_16 rfl (lv_at hl 1 rfl) ?_
  refine lv_lconst (v := lI 0) hx hb dX4_findKept_17 (by decide) ?_
  obtain ⟨h3, eh3, hf⟩ := ob_s hf
  refine ep_put (C := RX4) (T := TX4) (N := 32) (ci := 4) hx hb hts in_X4 tyX4 tyX4_ok nmX4 hown hK hw rfl (by decide) 23 (by decide) q1162 rfl rfl rfl eh3 dX4_findKept_18 (fun H locs hw => ?_)
  refine lv_aload_n hx hb dX4_findKept_21 rfl (lv_at hl 1 rfl) ?_
  refine lv_lconst (v := lI 0) hx hb dX4_findKept_22 (by decide) ?_
  obtain ⟨h4, eh4, hf⟩ := ob_s hf
  refine ep_put (C := RX4) (T := TX4) (N := 32) (ci := 4) hx hb hts in_X4 tyX4 tyX4_ok nmX4 hown hK hw rfl (by decide) 24 (by decide) q1163 rfl rfl rfl eh4 dX4_findKept_23 (fun H locs hw => ?_)
  refine lv_aload_n hx hb dX4_findKept_26 rfl (lv_at hl 1 rfl) ?_
  refine lv_lconst (v := lI 1) hx hb dX4_findKept_27 (by decide) ?_
  obtain ⟨h5, eh5, hf⟩ := ob_s hf
  refine ep_put (C := RX4) (T := TX4) (N := 32) (ci := 4) hx hb hts in_X4 tyX4 tyX4_ok nmX4 hown hK hw rfl (by decide) 25 (by decide) q1164 rfl rfl rfl eh5 dX4_findKept_28 (fun H locs hw => ?_)
  refine lv_iconst (v := iI 0) hx hb dX4_findKept_31 rfl ?_
  refine lv_istore (lv' := [(5, .int (iI 0)), (4, .int v2), (0, .ref a0), (1, .int x1), (2, .int x2), (3, .int x3)]) hx hb dX4_findKept_32 hl (by decide) rfl (fun ls hl => ?_)
  obtain ⟨o6, ho6, hf⟩ := ob_s hf
  have hJ6 : ∀ (H : Heap) (locs : List Loc) (ls : Array Slot), ep_W G ep_cl o6 s H locs → lv_has ls 11 [(0, .ref a0), (1, .int x1), (3, .int x3), (4, .int v2)] → wX4_findKept p l e s m below meth c G h a0 x1 x2 x3 res 0 0 H locs (F0 m 58 ls []) := by
    intro H locs ls hw hl
    refine lv_iconst (v := iI 0) hx hb dX4_findKept_58 rfl ?_
    refine lv_istore (lv' := [(5, .int (iI 0)), (0, .ref a0), (1, .int x1), (3, .int x3), (4, .int v2)]) hx hb dX4_findKept_59 hl (by decide) rfl (fun ls hl => ?_)
    obtain ⟨o10, ho10, hf⟩ := ob_s hf
    have hJ10 : ∀ (H : Heap) (locs : List Loc) (ls : Array Slot), ep_W G ep_cl o10 s H locs → lv_has ls 11 [] → wX4_findKept p l e s m below meth c G h a0 x1 x2 x3 res 0 0 H locs (F0 m 193 ls []) := by
      intro H locs ls hw hl
      exact ep_retvW hx hb hr hlocks hw hf dX4_findKept_193
    have hL10 : ∀ (fu : Nat) (h : Hp) (x5 : Int32), fX4_findKept_L61 a0 x1 x3 v2 fu h x5 = some o10 → ∀ (H : Heap) (locs : List Loc) (ls : Array Slot), ep_W G ep_cl h s H locs → lv_has ls 11 [(0, .ref a0), (1, .int x1), (3, .int x3), (4, .int v2), (5, .int x5)] → wX4_findKept p l e s m below meth c G h a0 x1 x2 x3 res 0 0 H locs (F0 m 61 ls []) := by
      intro fu
      induction fu with
      | zero => intro h x5 ho10; cases ho10
      | succ fu ih10 =>
        intro h x5 ho10 H locs ls hw hl
        rw [fX4_findKept_L61] at ho10
        refine lv_iload hx hb dX4_findKept_61 (lv_at hl 4 rfl) ?_
        refine lv_iconst (v := iI 1) hx hb dX4_findKept_63 rfl ?_
        refine lv_iload_n hx hb dX4_findKept_64 rfl (lv_at hl 2 rfl) ?_
        refine lv_ishl hx hb dX4_findKept_65 ?_
        refine lv_icmp_ge (tgt := 193) hx hb dX4_findKept_66 (by decide) (fun c11 => ?_) (fun c11 => ?_)
        · have ho10 := oi_t ho10 c11
          obtain rfl := Option.some.inj ho10
          exact hJ10 _ _ _ hw (lv_sub hl [] rfl)
        · have ho10 := oi_f ho10 c11
          refine lv_lconst (v := lI 1) hx hb dX4_findKept_69 (by decide) ?_
          refine lv_lstore (lv' := [(6, .long (lI 1)), (0, .ref a0), (1, .int x1), (3, .int x3), (4, .int v2), (5, .int x5)]) hx hb dX4_findKept_70 hl (by decide) rfl (fun ls hl => ?_)
          refine lv_iload hx hb dX4_findKept_72 (lv_at hl 4 rfl) ?_
          refine lv_istore (lv' := [(8, .int v2), (6, .long (lI 1)), (0, .ref a0), (1, .int x1), (3, .int x3), (4, .int v2), (5, .int x5)]) hx hb dX4_findKept_74 hl (by decide) rfl (fun ls hl => ?_)
          refine lv_iconst (v := iI 0) hx hb dX4_findKept_76 rfl ?_
          refine lv_istore (lv' := [(9, .int (iI 0)), (8, .int v2), (6, .long (lI 1)), (0, .ref a0), (1, .int x1), (3, .int x3), (4, .int v2), (5, .int x5)]) hx hb dX4_findKept_77 hl (by decide) rfl (fun ls hl => ?_)
          obtain ⟨o12, ho12, ho10⟩ := ob_s ho10
          have hJ12 : ∀ (H : Heap) (locs : List Loc) (ls : Array Slot), ep_W G ep_cl h s H locs → lv_has ls 11 [(0, .ref a0), (1, .int x1), (3, .int x3), (4, .int v2), (5, .int x5), (6, .long o12.1), (8, .int o12.2)] → wX4_findKept p l e s m below meth c G h a0 x1 x2 x3 res 0 0 H locs (F0 m 152 ls []) := by
            intro H locs ls hw hl
            refine lv_aload_n hx hb dX4_findKept_152 rfl (lv_at hl 0 rfl) ?_
            refine lv_dup hx hb dX4_findKept_153 rfl ?_
            obtain ⟨v22, ev22, ho10⟩ := ob_s ho10
            refine ep_get (C := RX4) (T := TX4) (N := 32) (ci := 4) hx hb hts in_X4 hown hK hw rfl 23 (by decide) q1162 (gL_f ev22) dX4_findKept_154 ?_
            refine lv_iload hx hb dX4_findKept_157 (lv_at hl 6 rfl) ?_
            have hJ23 : wX4_findKept p l e s m below meth c G h a0 x1 x2 x3 res 0 0 H locs (F0 m 168 ls [.long (if o12.2 ≤ 0 then lI 0 else o12.1), .long v22, .ref a0]) := by
              refine lv_ladd hx hb dX4_findKept_168 ?_
              obtain ⟨h25, eh25, ho10⟩ := ob_s ho10
              refine ep_put (C := RX4) (T := TX4) (N := 32) (ci := 4) hx hb hts in_X4 tyX4 tyX4_ok nmX4 hown hK hw rfl (by decide) 23 (by decide) q1162 rfl rfl rfl eh25 dX4_findKept_169 (fun H locs hw => ?_)
              refine lv_aload_n hx hb dX4_findKept_172 rfl (lv_at hl 0 rfl) ?_
              refine lv_dup hx hb dX4_findKept_173 rfl ?_
              obtain ⟨v26, ev26, ho10⟩ := ob_s ho10
              refine ep_get (C := RX4) (T := TX4) (N := 32) (ci := 4) hx hb hts in_X4 hown hK hw rfl 24 (by decide) q1163 (gL_f ev26) dX4_findKept_174 ?_
              refine lv_iload hx hb dX4_findKept_177 (lv_at hl 6 rfl) ?_
              refine lv_i2l (v := o12.2.toInt64) hx hb dX4_findKept_179 rfl ?_
              refine lv_lload hx hb dX4_findKept_180 (lv_at hl 5 rfl) ?_
              refine lv_lmul hx hb dX4_findKept_182 ?_
              refine lv_ladd hx hb dX4_findKept_183 ?_
              obtain ⟨h27, eh27, ho10⟩ := ob_s ho10
              refine ep_put (C := RX4) (T := TX4) (N := 32) (ci := 4) hx hb hts in_X4 tyX4 tyX4_ok nmX4 hown hK hw rfl (by decide) 24 (by decide) q1163 rfl rfl rfl eh27 dX4_findKept_184 (fun H locs hw => ?_)
              refine lv_iinc (v := (x5 + iI 1)) (lv' := [(5, .int (x5 + iI 1)), (0, .ref a0), (1, .int x1), (3, .int x3), (4, .int v2), (6, .long o12.1), (8, .int o12.2)]) hx hb dX4_findKept_187 hl (k := 4) rfl rfl (by decide) rfl (fun ls hl => ?_)
              refine lv_goto (tgt := 61) hx hb dX4_findKept_190 (by decide) ?_
              exact ih10 _ _ ho10 _ _ _ hw (lv_sub hl [1, 2, 3, 4, 0] rfl)
            refine lv_if_le (tgt := 167) hx hb dX4_findKept_159 (by decide) (fun c24 => ?_) (fun c24 => ?_)
            · refine lv_lconst (v := lI 0) hx hb dX4_findKept_167 (by decide) ?_
              rw [if_pos c24] at hJ23
              exact hJ23
            · refine lv_lload hx hb dX4_findKept_162 (lv_at hl 5 rfl) ?_
              refine lv_goto (tgt := 168) hx hb dX4_findKept_164 (by decide) ?_
              rw [if_neg c24] at hJ23
              exact hJ23
          have hL12 : ∀ (fu : Nat) (x6 : Int64) (x8 : Int32) (x9 : Int32), fX4_findKept_L79 h a0 x1 x3 v2 x5 fu x6 x8 x9 = some o12 → ∀ (H : Heap) (locs : List Loc) (ls : Array Slot), ep_W G ep_cl h s H locs → lv_has ls 11 [(0, .ref a0), (1, .int x1), (3, .int x3), (4, .int v2), (5, .int x5), (6, .long x6), (8, .int x8), (9, .int x9)] → wX4_findKept p l e s m below meth c G h a0 x1 x2 x3 res 0 0 H locs (F0 m 79 ls []) := by
            intro fu
            induction fu with
            | zero => intro x6 x8 x9 ho12; cases ho12
            | succ fu ih12 =>
              intro x6 x8 x9 ho12 H locs ls hw hl
              rw [fX4_findKept_L79] at ho12
              refine lv_iload hx hb dX4_findKept_79 (lv_at hl 7 rfl) ?_
              refine lv_iload_n hx hb dX4_findKept_81 rfl (lv_at hl 2 rfl) ?_
              refine lv_icmp_ge (tgt := 152) hx hb dX4_findKept_82 (by decide) (fun c13 => ?_) (fun c13 => ?_)
              · have ho12 := oi_t ho12 c13
                obtain rfl := Option.some.inj ho12
                exact hJ12 _ _ _ hw (lv_sub hl [0, 1, 2, 3, 4, 5, 6] rfl)
              · have ho12 := oi_f ho12 c13
                refine lv_iload hx hb dX4_findKept_85 (lv_at hl 4 rfl) ?_
                refine lv_iload hx hb dX4_findKept_87 (lv_at hl 7 rfl) ?_
                refine lv_ishr hx hb dX4_findKept_89 ?_
                refine lv_iconst (v := iI 1) hx hb dX4_findKept_90 rfl ?_
                refine lv_iand hx hb dX4_findKept_91 ?_
                refine lv_iconst (v := iI 1) hx hb dX4_findKept_92 rfl ?_
                have hJ14 : wX4_findKept p l e s m below meth c G h a0 x1 x2 x3 res 0 0 H locs (F0 m 101 ls [.int (if ((x5 >>> (x9 &&& 31)) &&& (iI 1)) = (iI 1) then iI 1 else iI 0)]) := by
                  refine lv_istore (lv' := [(10, .int (if ((x5 >>> (x9 &&& 31)) &&& (iI 1)) = (iI 1) then iI 1 else iI 0)), (0, .ref a0), (1, .int x1), (3, .int x3), (4, .int v2), (5, .int x5), (6, .long x6), (8, .int x8), (9, .int x9)]) hx hb dX4_findKept_101 hl (by decide) rfl (fun ls hl => ?_)
                  refine lv_lload hx hb dX4_findKept_103 (lv_at hl 6 rfl) ?_
                  refine lv_iload hx hb dX4_findKept_105 (lv_at hl 0 rfl) ?_
                  have hJ16 : wX4_findKept p l e s m below meth c G h a0 x1 x2 x3 res 0 0 H locs (F0 m 120 ls [.long (if (if ((x5 >>> (x9 &&& 31)) &&& (iI 1)) = (iI 1) then iI 1 else iI 0) = 0 then ((iI 10) - x1).toInt64 else x1.toInt64), .long x6]) := by
                    refine lv_lmul hx hb dX4_findKept_120 ?_
                    refine lv_lstore (lv' := [(6, .long (x6 * (if (if ((x5 >>> (x9 &&& 31)) &&& (iI 1)) = (iI 1) then iI 1 else iI 0) = 0 then ((iI 10) - x1).toInt64 else x1.toInt64))), (10, .int (if ((x5 >>> (x9 &&& 31)) &&& (iI 1)) = (iI 1) then iI 1 else iI 0)), (0, .ref a0), (1, .int x1), (3, .int x3), (4, .int v2), (5, .int x5), (8, .int x8), (9, .int x9)]) hx hb dX4_findKept_121 hl (by decide) rfl (fun ls hl => ?_)
                    refine lv_iload hx hb dX4_findKept_123 (lv_at hl 7 rfl) ?_
                    refine lv_iload hx hb dX4_findKept_125 (lv_at hl 1 rfl) ?_
                    have hJ18 : wX4_findKept p l e s m below meth c G h a0 x1 x2 x3 res 0 0 H locs (F0 m 140 ls [.int (if (if ((x5 >>> (x9 &&& 31)) &&& (iI 1)) = (iI 1) then iI 1 else iI 0) = 0 then iI 0 else (if x8 ≤ 0 then iI 0 else iI 1)), .int x8]) := by
                      obtain ⟨v21, ev21, ho12⟩ := ob_s ho12
                      refine ep_calli0 (va_runS (As := [.int (if (if ((x5 >>> (x9 &&& 31)) &&& (iI 1)) = (iI 1) then iI 1 else iI 0) = 0 then iI 0 else (if x8 ≤ 0 then iI 0 else iI 1))]) (rest := [.int x8]) ⟨hx, hb, hml, hown, hts⟩ (metX4_flag l G h (if (if ((x5 >>> (x9 &&& 31)) &&& (iI 1)) = (iI 1) then iI 1 else iI 0) = 0 then iI 0 else (if x8 ≤ 0 then iI 0 else iI 1)) ev21) (va_cwS 1 hts (lw_S q1308 q1309 q89 q1310) rfl rfl rfl hsX4_flag ⟨Nat.le_of_ble_eq_true rfl, Nat.le_of_ble_eq_true rfl⟩) (ep_preS hK hZ hw) rfl rfl hl.1 rfl (lv_room (Nat.le_of_ble_eq_true rfl)) dX4_findKept_140 ⟨Nat.le_of_ble_eq_true rfl, Nat.le_of_ble_eq_true rfl⟩) hw (fun H locs hw => ?_)
                      refine lv_isub hx hb dX4_findKept_143 ?_
                      refine lv_istore (lv' := [(8, .int (x8 - v21)), (6, .long (x6 * (if (if ((x5 >>> (x9 &&& 31)) &&& (iI 1)) = (iI 1) then iI 1 else iI 0) = 0 then ((iI 10) - x1).toInt64 else x1.toInt64))), (10, .int (if ((x5 >>> (x9 &&& 31)) &&& (iI 1)) = (iI 1) then iI 1 else iI 0)), (0, .ref a0), (1, .int x1), (3, .int x3), (4, .int v2), (5, .int x5), (9, .int x9)]) hx hb dX4_findKept_144 hl (by decide) rfl (fun ls hl => ?_)
                      refine lv_iinc (v := (x9 + iI 1)) (lv' := [(9, .int (x9 + iI 1)), (8, .int (x8 - v21)), (6, .long (x6 * (if (if ((x5 >>> (x9 &&& 31)) &&& (iI 1)) = (iI 1) then iI 1 else iI 0) = 0 then ((iI 10) - x1).toInt64 else x1.toInt64))), (10, .int (if ((x5 >>> (x9 &&& 31)) &&& (iI 1)) = (iI 1) then iI 1 else iI 0)), (0, .ref a0), (1, .int x1), (3, .int x3), (4, .int v2), (5, .int x5)]) hx hb dX4_findKept_146 hl (k := 8) rfl rfl (by decide) rfl (fun ls hl => ?_)
                      refine lv_goto (tgt := 79) hx hb dX4_findKept_149 (by decide) ?_
                      exact ih12 _ _ _ ho12 _ _ _ hw (lv_sub hl [4, 5, 6, 7, 8, 2, 1, 0] rfl)
                    refine lv_if_eq (tgt := 139) hx hb dX4_findKept_127 (by decide) (fun c19 => ?_) (fun c19 => ?_)
                    · refine lv_iconst (v := iI 0) hx hb dX4_findKept_139 rfl ?_
                      rw [if_pos c19] at hJ18
                      exact hJ18
                    · refine lv_iload hx hb dX4_findKept_130 (lv_at hl 7 rfl) ?_
                      refine lv_if_le (tgt := 139) hx hb dX4_findKept_132 (by decide) (fun c20 => ?_) (fun c20 => ?_)
                      · refine lv_iconst (v := iI 0) hx hb dX4_findKept_139 rfl ?_
                        rw [if_neg c19, if_pos c20] at hJ18
                        exact hJ18
                      · refine lv_iconst (v := iI 1) hx hb dX4_findKept_135 rfl ?_
                        refine lv_goto (tgt := 140) hx hb dX4_findKept_136 (by decide) ?_
                        rw [if_neg c19, if_neg c20] at hJ18
                        exact hJ18
                  refine lv_if_eq (tgt := 115) hx hb dX4_findKept_107 (by decide) (fun c17 => ?_) (fun c17 => ?_)
                  · refine lv_bipush (v := iI 10) hx hb dX4_findKept_115 (by decide) ?_
                    refine lv_iload_n hx hb dX4_findKept_117 rfl (lv_at hl 2 rfl) ?_
                    refine lv_isub hx hb dX4_findKept_118 ?_
                    refine lv_i2l (v := ((iI 10) - x1).toInt64) hx hb dX4_findKept_119 rfl ?_
                    rw [if_pos c17] at hJ16
                    exact hJ16
                  · refine lv_iload_n hx hb dX4_findKept_110 rfl (lv_at hl 2 rfl) ?_
                    refine lv_i2l (v := x1.toInt64) hx hb dX4_findKept_111 rfl ?_
                    refine lv_goto (tgt := 120) hx hb dX4_findKept_112 (by decide) ?_
                    rw [if_neg c17] at hJ16
                    exact hJ16
                refine lv_icmp_ne (tgt := 100) hx hb dX4_findKept_93 (by decide) (fun c15 => ?_) (fun c15 => ?_)
                · refine lv_iconst (v := iI 0) hx hb dX4_findKept_100 rfl ?_
                  rw [if_neg c15] at hJ14
                  exact hJ14
                · refine lv_iconst (v := iI 1) hx hb dX4_findKept_96 rfl ?_
                  refine lv_goto (tgt := 101) hx hb dX4_findKept_97 (by decide) ?_
                  rw [if_pos c15] at hJ14
                  exact hJ14
          exact hL12 FUEL _ _ _ ho12 _ _ _ hw (lv_sub hl [3, 4, 5, 6, 7, 2, 1, 0] rfl)
    exact hL10 FUEL _ _ ho10 _ _ _ hw (lv_sub hl [1, 2, 3, 4, 0] rfl)
  have hL6 : ∀ (fu : Nat) (h : Hp) (x5 : Int32), fX4_findKept_L34 a0 x1 x3 v2 fu h x5 = some o6 → ∀ (H : Heap) (locs : List Loc) (ls : Array Slot), ep_W G ep_cl h s H locs → lv_has ls 11 [(0, .ref a0), (1, .int x1), (3, .int x3), (4, .int v2), (5, .int x5)] → wX4_findKept p l e s m below meth c G h a0 x1 x2 x3 res 0 0 H locs (F0 m 34 ls []) := by
    intro fu
    induction fu with
    | zero => intro h x5 ho6; cases ho6
    | succ fu ih6 =>
      intro h x5 ho6 H locs ls hw hl
      rw [fX4_findKept_L34] at ho6
      refine lv_iload hx hb dX4_findKept_34 (lv_at hl 4 rfl) ?_
      refine lv_iload_n hx hb dX4_findKept_36 rfl (lv_at hl 2 rfl) ?_
      refine lv_icmp_ge (tgt := 58) hx hb dX4_findKept_37 (by decide) (fun c7 => ?_) (fun c7 => ?_)
      · have ho6 := oi_t ho6 c7
        obtain rfl := Option.some.inj ho6
        exact hJ6 _ _ _ hw (lv_sub hl [0, 1, 2, 3] rfl)
      · have ho6 := oi_f ho6 c7
        refine lv_aload_n hx hb dX4_findKept_40 rfl (lv_at hl 0 rfl) ?_
        refine lv_dup hx hb dX4_findKept_41 rfl ?_
        obtain ⟨v8, ev8, ho6⟩ := ob_s ho6
        refine ep_get (C := RX4) (T := TX4) (N := 32) (ci := 4) hx hb hts in_X4 hown hK hw rfl 25 (by decide) q1164 (gL_f ev8) dX4_findKept_42 ?_
        refine lv_ldc2 (v := (10 : Int64)) hx hb hown (hts _ q1552) dX4_findKept_45 ?_
        refine lv_lmul hx hb dX4_findKept_48 ?_
        obtain ⟨h9, eh9, ho6⟩ := ob_s ho6
        refine ep_put (C := RX4) (T := TX4) (N := 32) (ci := 4) hx hb hts in_X4 tyX4 tyX4_ok nmX4 hown hK hw rfl (by decide) 25 (by decide) q1164 rfl rfl rfl eh9 dX4_findKept_49 (fun H locs hw => ?_)
        refine lv_iinc (v := (x5 + iI 1)) (lv' := [(5, .int (x5 + iI 1)), (0, .ref a0), (1, .int x1), (3, .int x3), (4, .int v2)]) hx hb dX4_findKept_52 hl (k := 4) rfl rfl (by decide) rfl (fun ls hl => ?_)
        refine lv_goto (tgt := 34) hx hb dX4_findKept_55 (by decide) ?_
        exact ih6 _ _ ho6 _ _ _ hw (lv_sub hl [1, 2, 3, 4, 0] rfl)
  exact hL6 FUEL _ _ ho6 _ _ _ hw (lv_sub hl [2, 3, 5, 1, 0] rfl)
theorem hsX4_common : yX4_common.cls ≠ "java/lang/invoke/MethodHandle" ∧ yX4_common.cls ≠ "java/lang/invoke/VarHandle" ∧ (parseMethodDescriptor yX4_common.desc).map (fun d => d.parameters.length) = some 2 := by decide +kernel
abbrev wX4_common (p : Program) (l : Launch) (e : Env) (s : State) (m : MethodId) (below : List Frame) (meth : Method) (c : Code) (G : EG) (h : Hp) (x0 : Int64) (x2 : Int64) (res : Int64) (k9 n9 : Nat) (H : Heap) (locs : List Loc) (g : JFrame) : Prop := W p l e (headSpec (ws_ yX4_common cX4_common 10 (some .long)) ({ frames := 0, cells := 0, slots := 0, locals := 0 } : Room)).room s m ([.long x0, .long x2] : List Value).toArray below meth c H locs k9 n9 (MQ below (ep_Ql G ep_cl h res) ([.long x0, .long x2] : List Value).toArray s 0 0 (ep_A G)) g
set_option maxHeartbeats 4000000 in
theorem metX4_common (l : Launch) (G : EG) (h : Hp) (x0 : Int64) (x2 : Int64) {res : Int64} (hf : fX4_common x0 x2 = some res) : Met l yX4_common (ws_ yX4_common cX4_common 10 (some .long)) ({ frames := 0, cells := 0, slots := 0, locals := 0 } : Room) (ep_Pc G ep_cl h [.long x0, .long x2]) (ep_Ql G ep_cl h res) 0 0 (ep_A G) := by
  refine Met.ofW (cc := cX4_common) (maxL := 10) (ret := (some .long)) (by decide) rfl ?_
  intro p e s m args below meth c s₁ B hml hv
  obtain ⟨rfl, hR, hK, hZ⟩ := hv
  have hx := B.exec
  have hb := B.bytes
  have hr := B.returns
  have hlocks := B.notSynchronized
  have hts := atoms_spec (ws := (ws_ yX4_common cX4_common 10 (some .long))) B.pre
  have hts : ∀ w ∈ lw_all, w.before _ s = true := fun w h => hts w (List.mem_cons_of_mem _ h)
  have hown : s.vm.findClass RX4 = some m.cls := findClass_of_methodNamed B.named
  have hw : ep_W G ep_cl h s s.heap [] := ⟨hR, va_S.rf⟩
  have hl := lv_entry ([.long x0, .long x2]) (n := 10) (Nat.le_of_ble_eq_true rfl)
  rw [lg_entry_eq]
  generalize (lg_sl ([.long x0, .long x2]) ++ List.replicate (10 - (lg_sl ([.long x0, .long x2])).length) Slot.unset).toArray = ls at hl ⊢
  have hl : lv_has ls 10 [(0, .long x0), (2, .long x2)] := hl
  unfold fX4_common at hf
  show wX4_common p l e s m below meth c G h x0 x2 res 0 0 s.heap ([]) (F0 m 0 ls [])
  refine lv_lload_n hx hb dX4_common_0 rfl (lv_at hl 0 rfl) ?_
  refine lv_lstore (lv' := [(4, .long x0), (0, .long x0), (2, .long x2)]) hx hb dX4_common_1 hl (by decide) rfl (fun ls hl => ?_)
  refine lv_lload_n hx hb dX4_common_3 rfl (lv_at hl 2 rfl) ?_
  refine lv_lstore (lv' := [(6, .long x2), (4, .long x0), (0, .long x0), (2, .long x2)]) hx hb dX4_common_4 hl (by decide) rfl (fun ls hl => ?_)
  obtain ⟨o1, ho1, hf⟩ := ob_s hf
  have hJ1 : ∀ (H : Heap) (locs : List Loc) (ls : Array Slot), ep_W G ep_cl h s H locs → lv_has ls 10 [(4, .long o1)] → wX4_common p l e s m below meth c G h x0 x2 res 0 0 H locs (F0 m 31 ls []) := by
    intro H locs ls hw hl
    refine lv_lload hx hb dX4_common_31 (lv_at hl 0 rfl) ?_
    exact ep_retlR hx hb hr hlocks hw hf dX4_common_33
  have hL1 : ∀ (fu : Nat) (x4 : Int64) (x6 : Int64), fX4_common_L6 fu x4 x6 = some o1 → ∀ (H : Heap) (locs : List Loc) (ls : Array Slot), ep_W G ep_cl h s H locs → lv_has ls 10 [(4, .long x4), (6, .long x6)] → wX4_common p l e s m below meth c G h x0 x2 res 0 0 H locs (F0 m 6 ls []) := by
    intro fu
    induction fu with
    | zero => intro x4 x6 ho1; cases ho1
    | succ fu ih1 =>
      intro x4 x6 ho1 H locs ls hw hl
      rw [fX4_common_L6] at ho1
      refine lv_lload hx hb dX4_common_6 (lv_at hl 1 rfl) ?_
      refine lv_lconst (v := lI 0) hx hb dX4_common_8 (by decide) ?_
      refine W.lcmp hx hb dX4_common_9 ?_
      refine lv_if_eq (tgt := 31) hx hb dX4_common_10 (by decide) (fun c2 => ?_) (fun c2 => ?_)
      · have ho1 := oi_t ho1 c2
        obtain rfl := Option.some.inj ho1
        exact hJ1 _ _ _ hw (lv_sub hl [0] rfl)
      · have ho1 := oi_f ho1 c2
        refine lv_lload hx hb dX4_common_13 (lv_at hl 0 rfl) ?_
        refine lv_lload hx hb dX4_common_15 (lv_at hl 1 rfl) ?_
        obtain ⟨v3, ev3, ho1⟩ := ob_s ho1
        refine ep_lrem hx hb ev3 dX4_common_17 ?_
        refine lv_lstore (lv' := [(8, .long v3), (4, .long x4), (6, .long x6)]) hx hb dX4_common_18 hl (by decide) rfl (fun ls hl => ?_)
        refine lv_lload hx hb dX4_common_20 (lv_at hl 2 rfl) ?_
        refine lv_lstore (lv' := [(4, .long x6), (8, .long v3), (6, .long x6)]) hx hb dX4_common_22 hl (by decide) rfl (fun ls hl => ?_)
        refine lv_lload hx hb dX4_common_24 (lv_at hl 1 rfl) ?_
        refine lv_lstore (lv' := [(6, .long v3), (4, .long x6), (8, .long v3)]) hx hb dX4_common_26 hl (by decide) rfl (fun ls hl => ?_)
        refine lv_goto (tgt := 6) hx hb dX4_common_28 (by decide) ?_
        exact ih1 _ _ ho1 _ _ _ hw (lv_sub hl [1, 0] rfl)
  exact hL1 FUEL _ _ ho1 _ _ _ hw (lv_sub hl [1, 0] rfl)
theorem hsX4_told : yX4_told.cls ≠ "java/lang/invoke/MethodHandle" ∧ yX4_told.cls ≠ "java/lang/invoke/VarHandle" ∧ (parseMethodDescriptor yX4_told.desc).map (fun d => d.parameters.length) = some 3 := by decide +kernel
abbrev wX4_told (p : Program) (l : Launch) (e : Env) (s : State) (m : MethodId) (below : List Frame) (meth : Method) (c : Code) (G : EG) (h : Hp) (x0 : Int64) (x2 : Int64) (x4 : Int32) (res : Int64) (k9 n9 : Nat) (H : Heap) (locs : List Loc) (g : JFrame) : Prop := W p l e (headSpec (ws_ yX4_told cX4_told 7 (some .long)) ({ frames := 1, cells := 0, slots := 0, locals := 29 } : Room)).room s m ([.long x0, .long x2, .int x4] : List Value).toArray below meth c H locs k9 n9 (MQ below (ep_Ql G ep_cl h res) ([.long x0, .long x2, .int x4] : List Value).toArray s 0 0 (ep_A G)) g
set_option maxHeartbeats 4000000 in
theorem metX4_told (l : Launch) (G : EG) (h : Hp) (x0 : Int64) (x2 : Int64) (x4 : Int32) {res : Int64} (hf : fX4_told x0 x2 x4 = some res) : Met l yX4_told (ws_ yX4_told cX4_told 7 (some .long)) ({ frames := 1, cells := 0, slots := 0, locals := 29 } : Room) (ep_Pc G ep_cl h [.long x0, .long x2, .int x4]) (ep_Ql G ep_cl h res) 0 0 (ep_A G) := by
  refine Met.ofW (cc := cX4_told) (maxL := 7) (ret := (some .long)) (by decide) rfl ?_
  intro p e s m args below meth c s₁ B hml hv
  obtain ⟨rfl, hR, hK, hZ⟩ := hv
  have hx := B.exec
  have hb := B.bytes
  have hr := B.returns
  have hlocks := B.notSynchronized
  have hts := atoms_spec (ws := (ws_ yX4_told cX4_told 7 (some .long))) B.pre
  have hts : ∀ w ∈ lw_all, w.before _ s = true := fun w h => hts w (List.mem_cons_of_mem _ h)
  have hown : s.vm.findClass RX4 = some m.cls := findClass_of_methodNamed B.named
  have hw : ep_W G ep_cl h s s.heap [] := ⟨hR, va_S.rf⟩
  have hl := lv_entry ([.long x0, .long x2, .int x4]) (n := 7) (Nat.le_of_ble_eq_true rfl)
  rw [lg_entry_eq]
  generalize (lg_sl ([.long x0, .long x2, .int x4]) ++ List.replicate (7 - (lg_sl ([.long x0, .long x2, .int x4])).length) Slot.unset).toArray = ls at hl ⊢
  have hl : lv_has ls 7 [(0, .long x0), (2, .long x2), (4, .int x4)] := hl
  unfold fX4_told at hf
  show wX4_told p l e s m below meth c G h x0 x2 x4 res 0 0 s.heap ([]) (F0 m 0 ls [])
  refine lv_lload_n hx hb dX4_told_0 rfl (lv_at hl 1 rfl) ?_
  refine lv_lload_n hx hb dX4_told_1 rfl (lv_at hl 0 rfl) ?_
  obtain ⟨v1, ev1, hf⟩ := ob_s hf
  refine ep_calll0 (va_runS (As := [.long x2, .long x0]) (rest := []) ⟨hx, hb, hml, hown, hts⟩ (metX4_common l G h x2 x0 ev1) (va_cwS 2 hts (lw_S q1562 q1563 q89 q1564) rfl rfl rfl hsX4_common ⟨Nat.le_of_ble_eq_true rfl, Nat.le_of_ble_eq_true rfl⟩) (ep_preS hK hZ hw) rfl rfl hl.1 rfl (lv_room (Nat.le_of_ble_eq_true rfl)) dX4_told_2 ⟨Nat.le_of_ble_eq_true rfl, Nat.le_of_ble_eq_true rfl⟩) hw (fun H locs hw => ?_)
  refine lv_lstore (lv' := [(5, .long v1), (0, .long x0), (2, .long x2), (4, .int x4)]) hx hb dX4_told_5 hl (by decide) rfl (fun ls hl => ?_)
  refine lv_iload hx hb dX4_told_7 (lv_at hl 3 rfl) ?_
  refine lv_if_ne (tgt := 19) hx hb dX4_told_9 (by decide) (fun c2 => ?_) (fun c2 => ?_)
  · have hf := oi_f hf c2
    refine lv_lload_n hx hb dX4_told_19 rfl (lv_at hl 2 rfl) ?_
    refine lv_lload hx hb dX4_told_20 (lv_at hl 0 rfl) ?_
    obtain ⟨v3, ev3, hf⟩ := ob_s hf
    refine ep_ldiv hx hb ev3 dX4_told_22 ?_
    exact ep_retlR hx hb hr hlocks hw hf dX4_told_23
  · have hf := oi_t hf c2
    refine lv_lload_n hx hb dX4_told_12 rfl (lv_at hl 1 rfl) ?_
    refine lv_lload hx hb dX4_told_13 (lv_at hl 0 rfl) ?_
    obtain ⟨v4, ev4, hf⟩ := ob_s hf
    refine ep_ldiv hx hb ev4 dX4_told_15 ?_
    refine lv_goto (tgt := 23) hx hb dX4_told_16 (by decide) ?_
    exact ep_retlR hx hb hr hlocks hw hf dX4_told_23
theorem hdX4_keeps : yX4_keeps.cls = RX4 ∧ yX4_keeps.cls ≠ "java/lang/invoke/MethodHandle" ∧ yX4_keeps.cls ≠ "java/lang/invoke/VarHandle" ∧ (parseMethodDescriptor yX4_keeps.desc).map (fun d => d.parameters.length) = some 4 := by decide +kernel
theorem ckX4_keeps {h : Hp} {a0 : Nat} {x1 : Int32} {x2 : Int32} {x3 : Int32} {x4 : Int32} {res : Int64 × Hp} (hf : fX4_keeps h a0 x1 x2 x3 x4 = some res) : ep_cls h a0 = some 4 := by
  unfold fX4_keeps at hf
  exact (oi_c hf).1
abbrev wX4_keeps (p : Program) (l : Launch) (e : Env) (s : State) (m : MethodId) (below : List Frame) (meth : Method) (c : Code) (G : EG) (h : Hp) (a0 : Nat) (x1 : Int32) (x2 : Int32) (x3 : Int32) (x4 : Int32) (res : Int64 × Hp) (k9 n9 : Nat) (H : Heap) (locs : List Loc) (g : JFrame) : Prop := W p l e (headSpec (ws_ yX4_keeps cX4_keeps 5 (some .long)) ({ frames := 2, cells := 0, slots := 0, locals := 55 } : Room)).room s m ([.ref a0, .int x1, .int x2, .int x3, .int x4] : List Value).toArray below meth c H locs k9 n9 (MQ below (ep_Ql G ep_cl res.2 res.1) ([.ref a0, .int x1, .int x2, .int x3, .int x4] : List Value).toArray s 0 0 (ep_A G)) g
set_option maxHeartbeats 4000000 in
theorem metX4_keeps (l : Launch) (G : EG) (h : Hp) (a0 : Nat) (x1 : Int32) (x2 : Int32) (x3 : Int32) (x4 : Int32) {res : Int64 × Hp} (hf : fX4_keeps h a0 x1 x2 x3 x4 = some res) : Met l yX4_keeps (ws_ yX4_keeps cX4_keeps 5 (some .long)) ({ frames := 2, cells := 0, slots := 0, locals := 55 } : Room) (ep_Pc G ep_cl h [.ref a0, .int x1, .int x2, .int x3, .int x4]) (ep_Ql G ep_cl res.2 res.1) 0 0 (ep_A G) := by
  refine Met.ofW (cc := cX4_keeps) (maxL := 5) (ret := (some .long)) (by decide) rfl ?_
  intro p e s m args below meth c s₁ B hml hv
  obtain ⟨rfl, hR, hK, hZ⟩ := hv
  have hx := B.exec
  have hb := B.bytes
  have hr := B.returns
  have hlocks := B.notSynchronized
  have hts := atoms_spec (ws := (ws_ yX4_keeps cX4_keeps 5 (some .long))) B.pre
  have hts : ∀ w ∈ lw_all, w.before _ s = true := fun w h => hts w (List.mem_cons_of_mem _ h)
  have hown : s.vm.findClass RX4 = some m.cls := findClass_of_methodNamed B.named
  have hw : ep_W G ep_cl h s s.heap [] := ⟨hR, va_S.rf⟩
  have hl := lv_entry ([.ref a0, .int x1, .int x2, .int x3, .int x4]) (n := 5) (Nat.le_of_ble_eq_true rfl)
  rw [lg_entry_eq]
  generalize (lg_sl ([.ref a0, .int x1, .int x2, .int x3, .int x4]) ++ List.replicate (5 - (lg_sl ([.ref a0, .int x1, .int x2, .int x3, .int x4])).length) Slot.unset).toArray = ls at hl ⊢
  have hl : lv_has ls 5 [(0, .ref a0), (1, .int x1), (2, .int x2), (3, .int x3), (4, .int x4)] := hl
  unfold fX4_keeps at hf
  have hf := (oi_c hf).2
  show wX4_keeps p l e s m below meth c G h a0 x1 x2 x3 x4 res 0 0 s.heap ([]) (F0 m 0 ls [])
  refine lv_iload_n hx hb dX4_keeps_0 rfl (lv_at hl 1 rfl) ?_
  refine lv_i2l (v := x1.toInt64) hx hb dX4_keeps_1 rfl ?_
  refine lv_lconst (v := lI 0) hx hb dX4_keeps_2 (by decide) ?_
  refine lv_ldc2 (v := (10 : Int64)) hx hb hown (hts _ q1552) dX4_keeps_3 ?_
  obtain ⟨v1, ev1, hf⟩ := ob_s hf
  refine ep_calli0 (va_runS (As := [.long x1.toInt64, .long (lI 0), .long (10 : Int64)]) (rest := []) ⟨hx, hb, hml, hown, hts⟩ (metX4_in l G h x1.toInt64 (lI 0) (10 : Int64) ev1) (va_cwS 3 hts (lw_S q1242 q1243 q89 q1244) rfl rfl rfl hsX4_in ⟨Nat.le_of_ble_eq_true rfl, Nat.le_of_ble_eq_true rfl⟩) (ep_preS hK hZ hw) rfl rfl hl.1 rfl (lv_room (Nat.le_of_ble_eq_true rfl)) dX4_keeps_6 ⟨Nat.le_of_ble_eq_true rfl, Nat.le_of_ble_eq_true rfl⟩) hw (fun H locs hw => ?_)
  refine lv_if_eq (tgt := 40) hx hb dX4_keeps_9 (by decide) (fun c2 => ?_) (fun c2 => ?_)
  · have hf := oi_t hf c2
    refine lv_ldc2 (v := (-1 : Int64)) hx hb hown (hts _ q1554) dX4_keeps_40 ?_
    exact ep_retlW hx hb hr hlocks hw hf dX4_keeps_43
  · have hf := oi_f hf c2
    refine lv_aload_n hx hb dX4_keeps_12 rfl (lv_at hl 0 rfl) ?_
    refine lv_iload_n hx hb dX4_keeps_13 rfl (lv_at hl 2 rfl) ?_
    obtain ⟨v3, ev3, hf⟩ := ob_s hf
    refine ep_calli0 (va_runV (As := [.int x2]) (rest := []) ⟨hx, hb, hml, hown, hts⟩ (metX4_isEcho l G h a0 x2 ev3) (cwV 1 hts (lw_V q1352 q1354 qs54 q89 q1355) rfl rfl rfl hdX4_isEcho ⟨Nat.le_of_ble_eq_true rfl, Nat.le_of_ble_eq_true rfl⟩) (ep_preV hK hZ hw rfl (ckX4_isEcho ev3)) rfl rfl hl.1 rfl (lv_room (Nat.le_of_ble_eq_true rfl)) dX4_keeps_14 ⟨Nat.le_of_ble_eq_true rfl, Nat.le_of_ble_eq_true rfl⟩) hw (fun H locs hw => ?_)
    refine lv_if_eq (tgt := 40) hx hb dX4_keeps_17 (by decide) (fun c4 => ?_) (fun c4 => ?_)
    · have hf := oi_t hf c4
      refine lv_ldc2 (v := (-1 : Int64)) hx hb hown (hts _ q1554) dX4_keeps_40 ?_
      exact ep_retlW hx hb hr hlocks hw hf dX4_keeps_43
    · have hf := oi_f hf c4
      refine lv_iload_n hx hb dX4_keeps_20 rfl (lv_at hl 3 rfl) ?_
      refine lv_i2l (v := x3.toInt64) hx hb dX4_keeps_21 rfl ?_
      refine lv_lconst (v := lI 0) hx hb dX4_keeps_22 (by decide) ?_
      refine lv_ldc2 (v := (6 : Int64)) hx hb hown (hts _ q1553) dX4_keeps_23 ?_
      obtain ⟨v5, ev5, hf⟩ := ob_s hf
      refine ep_calli0 (va_runS (As := [.long x3.toInt64, .long (lI 0), .long (6 : Int64)]) (rest := []) ⟨hx, hb, hml, hown, hts⟩ (metX4_in l G h x3.toInt64 (lI 0) (6 : Int64) ev5) (va_cwS 3 hts (lw_S q1242 q1243 q89 q1244) rfl rfl rfl hsX4_in ⟨Nat.le_of_ble_eq_true rfl, Nat.le_of_ble_eq_true rfl⟩) (ep_preS hK hZ hw) rfl rfl hl.1 rfl (lv_room (Nat.le_of_ble_eq_true rfl)) dX4_keeps_26 ⟨Nat.le_of_ble_eq_true rfl, Nat.le_of_ble_eq_true rfl⟩) hw (fun H locs hw => ?_)
      refine lv_if_eq (tgt := 40) hx hb dX4_keeps_29 (by decide) (fun c6 => ?_) (fun c6 => ?_)
      · have hf := oi_t hf c6
        refine lv_ldc2 (v := (-1 : Int64)) hx hb hown (hts _ q1554) dX4_keeps_40 ?_
        exact ep_retlW hx hb hr hlocks hw hf dX4_keeps_43
      · have hf := oi_f hf c6
        refine lv_iload hx hb dX4_keeps_32 (lv_at hl 4 rfl) ?_
        obtain ⟨v7, ev7, hf⟩ := ob_s hf
        refine ep_calli0 (va_runS (As := [.int x4]) (rest := []) ⟨hx, hb, hml, hown, hts⟩ (metX4_isPart l G h x4 ev7) (va_cwS 1 hts (lw_S q1399 q1400 q89 q1401) rfl rfl rfl hsX4_isPart ⟨Nat.le_of_ble_eq_true rfl, Nat.le_of_ble_eq_true rfl⟩) (ep_preS hK hZ hw) rfl rfl hl.1 rfl (lv_room (Nat.le_of_ble_eq_true rfl)) dX4_keeps_34 ⟨Nat.le_of_ble_eq_true rfl, Nat.le_of_ble_eq_true rfl⟩) hw (fun H locs hw => ?_)
        refine lv_if_ne (tgt := 44) hx hb dX4_keeps_37 (by decide) (fun c8 => ?_) (fun c8 => ?_)
        · have hf := oi_f hf c8
          refine lv_aload_n hx hb dX4_keeps_44 rfl (lv_at hl 0 rfl) ?_
          refine lv_iload_n hx hb dX4_keeps_45 rfl (lv_at hl 1 rfl) ?_
          refine lv_iload_n hx hb dX4_keeps_46 rfl (lv_at hl 2 rfl) ?_
          refine lv_iload_n hx hb dX4_keeps_47 rfl (lv_at hl 3 rfl) ?_
          obtain ⟨o9, eo9, hf⟩ := ob_s hf
          refine ep_callv0 (va_runV (As := [.int x1, .int x2, .int x3]) (rest := []) ⟨hx, hb, hml, hown, hts⟩ (metX4_findKept l G h a0 x1 x2 x3 eo9) (cwV 3 hts (lw_V q1555 q1557 qs80 q89 q1558) rfl rfl rfl hdX4_findKept ⟨Nat.le_of_ble_eq_true rfl, Nat.le_of_ble_eq_true rfl⟩) (ep_preV hK hZ hw rfl (ckX4_findKept eo9)) rfl rfl hl.1 rfl (lv_room (Nat.le_of_ble_eq_true rfl)) dX4_keeps_48 ⟨Nat.le_of_ble_eq_true rfl, Nat.le_of_ble_eq_true rfl⟩) hw (fun H locs hw => ?_)
          refine lv_aload_n hx hb dX4_keeps_51 rfl (lv_at hl 0 rfl) ?_
          obtain ⟨v10, ev10, hf⟩ := ob_s hf
          refine ep_get (C := RX4) (T := TX4) (N := 32) (ci := 4) hx hb hts in_X4 hown hK hw rfl 23 (by decide) q1162 (gL_f ev10) dX4_keeps_52 ?_
          refine lv_aload_n hx hb dX4_keeps_55 rfl (lv_at hl 0 rfl) ?_
          obtain ⟨v11, ev11, hf⟩ := ob_s hf
          refine ep_get (C := RX4) (T := TX4) (N := 32) (ci := 4) hx hb hts in_X4 hown hK hw rfl 25 (by decide) q1164 (gL_f ev11) dX4_keeps_56 ?_
          refine lv_iload hx hb dX4_keeps_59 (lv_at hl 4 rfl) ?_
          obtain ⟨v12, ev12, hf⟩ := ob_s hf
          refine ep_calll0 (va_runS (As := [.long v10, .long v11, .int x4]) (rest := []) ⟨hx, hb, hml, hown, hts⟩ (metX4_told l G o9 v10 v11 x4 ev12) (va_cwS 3 hts (lw_S q1559 q1560 q89 q1561) rfl rfl rfl hsX4_told ⟨Nat.le_of_ble_eq_true rfl, Nat.le_of_ble_eq_true rfl⟩) (ep_preS hK hZ hw) rfl rfl hl.1 rfl (lv_room (Nat.le_of_ble_eq_true rfl)) dX4_keeps_61 ⟨Nat.le_of_ble_eq_true rfl, Nat.le_of_ble_eq_true rfl⟩) hw (fun H locs hw => ?_)
          exact ep_retlW hx hb hr hlocks hw hf dX4_keeps_64
        · have hf := oi_t hf c8
          refine lv_ldc2 (v := (-1 : Int64)) hx hb hown (hts _ q1554) dX4_keeps_40 ?_
          exact ep_retlW hx hb hr hlocks hw hf dX4_keeps_43
theorem hdX4_mean : yX4_mean.cls = RX4 ∧ yX4_mean.cls ≠ "java/lang/invoke/MethodHandle" ∧ yX4_mean.cls ≠ "java/lang/invoke/VarHandle" ∧ (parseMethodDescriptor yX4_mean.desc).map (fun d => d.parameters.length) = some 4 := by decide +kernel
theorem ckX4_mean {h : Hp} {a0 : Nat} {x1 : Int32} {x2 : Int32} {x3 : Int32} {x4 : Int32} {res : Int64 × Hp} (hf : fX4_mean h a0 x1 x2 x3 x4 = some res) : ep_cls h a0 = some 4 := by
  unfold fX4_mean at hf
  exact (oi_c hf).1
abbrev wX4_mean (p : Program) (l : Launch) (e : Env) (s : State) (m : MethodId) (below : List Frame) (meth : Method) (c : Code) (G : EG) (h : Hp) (a0 : Nat) (x1 : Int32) (x2 : Int32) (x3 : Int32) (x4 : Int32) (res : Int64 × Hp) (k9 n9 : Nat) (H : Heap) (locs : List Loc) (g : JFrame) : Prop := W p l e (headSpec (ws_ yX4_mean cX4_mean 5 (some .long)) ({ frames := 2, cells := 0, slots := 0, locals := 55 } : Room)).room s m ([.ref a0, .int x1, .int x2, .int x3, .int x4] : List Value).toArray below meth c H locs k9 n9 (MQ below (ep_Ql G ep_cl res.2 res.1) ([.ref a0, .int x1, .int x2, .int x3, .int x4] : List Value).toArray s 0 0 (ep_A G)) g
set_option maxHeartbeats 4000000 in
theorem metX4_mean (l : Launch) (G : EG) (h : Hp) (a0 : Nat) (x1 : Int32) (x2 : Int32) (x3 : Int32) (x4 : Int32) {res : Int64 × Hp} (hf : fX4_mean h a0 x1 x2 x3 x4 = some res) : Met l yX4_mean (ws_ yX4_mean cX4_mean 5 (some .long)) ({ frames := 2, cells := 0, slots := 0, locals := 55 } : Room) (ep_Pc G ep_cl h [.ref a0, .int x1, .int x2, .int x3, .int x4]) (ep_Ql G ep_cl res.2 res.1) 0 0 (ep_A G) := by
  refine Met.ofW (cc := cX4_mean) (maxL := 5) (ret := (some .long)) (by decide) rfl ?_
  intro p e s m args below meth c s₁ B hml hv
  obtain ⟨rfl, hR, hK, hZ⟩ := hv
  have hx := B.exec
  have hb := B.bytes
  have hr := B.returns
  have hlocks := B.notSynchronized
  have hts := atoms_spec (ws := (ws_ yX4_mean cX4_mean 5 (some .long))) B.pre
  have hts : ∀ w ∈ lw_all, w.before _ s = true := fun w h => hts w (List.mem_cons_of_mem _ h)
  have hown : s.vm.findClass RX4 = some m.cls := findClass_of_methodNamed B.named
  have hw : ep_W G ep_cl h s s.heap [] := ⟨hR, va_S.rf⟩
  have hl := lv_entry ([.ref a0, .int x1, .int x2, .int x3, .int x4]) (n := 5) (Nat.le_of_ble_eq_true rfl)
  rw [lg_entry_eq]
  generalize (lg_sl ([.ref a0, .int x1, .int x2, .int x3, .int x4]) ++ List.replicate (5 - (lg_sl ([.ref a0, .int x1, .int x2, .int x3, .int x4])).length) Slot.unset).toArray = ls at hl ⊢
  have hl : lv_has ls 5 [(0, .ref a0), (1, .int x1), (2, .int x2), (3, .int x3), (4, .int x4)] := hl
  unfold fX4_mean at hf
  have hf := (oi_c hf).2
  show wX4_mean p l e s m below meth c G h a0 x1 x2 x3 x4 res 0 0 s.heap ([]) (F0 m 0 ls [])
  refine lv_iload_n hx hb dX4_mean_0 rfl (lv_at hl 1 rfl) ?_
  refine lv_i2l (v := x1.toInt64) hx hb dX4_mean_1 rfl ?_
  refine lv_lconst (v := lI 0) hx hb dX4_mean_2 (by decide) ?_
  refine lv_ldc2 (v := (10 : Int64)) hx hb hown (hts _ q1552) dX4_mean_3 ?_
  obtain ⟨v1, ev1, hf⟩ := ob_s hf
  refine ep_calli0 (va_runS (As := [.long x1.toInt64, .long (lI 0), .long (10 : Int64)]) (rest := []) ⟨hx, hb, hml, hown, hts⟩ (metX4_in l G h x1.toInt64 (lI 0) (10 : Int64) ev1) (va_cwS 3 hts (lw_S q1242 q1243 q89 q1244) rfl rfl rfl hsX4_in ⟨Nat.le_of_ble_eq_true rfl, Nat.le_of_ble_eq_true rfl⟩) (ep_preS hK hZ hw) rfl rfl hl.1 rfl (lv_room (Nat.le_of_ble_eq_true rfl)) dX4_mean_6 ⟨Nat.le_of_ble_eq_true rfl, Nat.le_of_ble_eq_true rfl⟩) hw (fun H locs hw => ?_)
  refine lv_if_eq (tgt := 40) hx hb dX4_mean_9 (by decide) (fun c2 => ?_) (fun c2 => ?_)
  · have hf := oi_t hf c2
    refine lv_ldc2 (v := (-1 : Int64)) hx hb hown (hts _ q1554) dX4_mean_40 ?_
    exact ep_retlW hx hb hr hlocks hw hf dX4_mean_43
  · have hf := oi_f hf c2
    refine lv_aload_n hx hb dX4_mean_12 rfl (lv_at hl 0 rfl) ?_
    refine lv_iload_n hx hb dX4_mean_13 rfl (lv_at hl 2 rfl) ?_
    obtain ⟨v3, ev3, hf⟩ := ob_s hf
    refine ep_calli0 (va_runV (As := [.int x2]) (rest := []) ⟨hx, hb, hml, hown, hts⟩ (metX4_isEcho l G h a0 x2 ev3) (cwV 1 hts (lw_V q1352 q1354 qs54 q89 q1355) rfl rfl rfl hdX4_isEcho ⟨Nat.le_of_ble_eq_true rfl, Nat.le_of_ble_eq_true rfl⟩) (ep_preV hK hZ hw rfl (ckX4_isEcho ev3)) rfl rfl hl.1 rfl (lv_room (Nat.le_of_ble_eq_true rfl)) dX4_mean_14 ⟨Nat.le_of_ble_eq_true rfl, Nat.le_of_ble_eq_true rfl⟩) hw (fun H locs hw => ?_)
    refine lv_if_eq (tgt := 40) hx hb dX4_mean_17 (by decide) (fun c4 => ?_) (fun c4 => ?_)
    · have hf := oi_t hf c4
      refine lv_ldc2 (v := (-1 : Int64)) hx hb hown (hts _ q1554) dX4_mean_40 ?_
      exact ep_retlW hx hb hr hlocks hw hf dX4_mean_43
    · have hf := oi_f hf c4
      refine lv_iload_n hx hb dX4_mean_20 rfl (lv_at hl 3 rfl) ?_
      refine lv_i2l (v := x3.toInt64) hx hb dX4_mean_21 rfl ?_
      refine lv_lconst (v := lI 0) hx hb dX4_mean_22 (by decide) ?_
      refine lv_ldc2 (v := (6 : Int64)) hx hb hown (hts _ q1553) dX4_mean_23 ?_
      obtain ⟨v5, ev5, hf⟩ := ob_s hf
      refine ep_calli0 (va_runS (As := [.long x3.toInt64, .long (lI 0), .long (6 : Int64)]) (rest := []) ⟨hx, hb, hml, hown, hts⟩ (metX4_in l G h x3.toInt64 (lI 0) (6 : Int64) ev5) (va_cwS 3 hts (lw_S q1242 q1243 q89 q1244) rfl rfl rfl hsX4_in ⟨Nat.le_of_ble_eq_true rfl, Nat.le_of_ble_eq_true rfl⟩) (ep_preS hK hZ hw) rfl rfl hl.1 rfl (lv_room (Nat.le_of_ble_eq_true rfl)) dX4_mean_26 ⟨Nat.le_of_ble_eq_true rfl, Nat.le_of_ble_eq_true rfl⟩) hw (fun H locs hw => ?_)
      refine lv_if_eq (tgt := 40) hx hb dX4_mean_29 (by decide) (fun c6 => ?_) (fun c6 => ?_)
      · have hf := oi_t hf c6
        refine lv_ldc2 (v := (-1 : Int64)) hx hb hown (hts _ q1554) dX4_mean_40 ?_
        exact ep_retlW hx hb hr hlocks hw hf dX4_mean_43
      · have hf := oi_f hf c6
        refine lv_iload hx hb dX4_mean_32 (lv_at hl 4 rfl) ?_
        obtain ⟨v7, ev7, hf⟩ := ob_s hf
        refine ep_calli0 (va_runS (As := [.int x4]) (rest := []) ⟨hx, hb, hml, hown, hts⟩ (metX4_isPart l G h x4 ev7) (va_cwS 1 hts (lw_S q1399 q1400 q89 q1401) rfl rfl rfl hsX4_isPart ⟨Nat.le_of_ble_eq_true rfl, Nat.le_of_ble_eq_true rfl⟩) (ep_preS hK hZ hw) rfl rfl hl.1 rfl (lv_room (Nat.le_of_ble_eq_true rfl)) dX4_mean_34 ⟨Nat.le_of_ble_eq_true rfl, Nat.le_of_ble_eq_true rfl⟩) hw (fun H locs hw => ?_)
        refine lv_if_ne (tgt := 44) hx hb dX4_mean_37 (by decide) (fun c8 => ?_) (fun c8 => ?_)
        · have hf := oi_f hf c8
          refine lv_aload_n hx hb dX4_mean_44 rfl (lv_at hl 0 rfl) ?_
          refine lv_iload_n hx hb dX4_mean_45 rfl (lv_at hl 1 rfl) ?_
          refine lv_iload_n hx hb dX4_mean_46 rfl (lv_at hl 2 rfl) ?_
          refine lv_iload_n hx hb dX4_mean_47 rfl (lv_at hl 3 rfl) ?_
          obtain ⟨o9, eo9, hf⟩ := ob_s hf
          refine ep_callv0 (va_runV (As := [.int x1, .int x2, .int x3]) (rest := []) ⟨hx, hb, hml, hown, hts⟩ (metX4_findKept l G h a0 x1 x2 x3 eo9) (cwV 3 hts (lw_V q1555 q1557 qs80 q89 q1558) rfl rfl rfl hdX4_findKept ⟨Nat.le_of_ble_eq_true rfl, Nat.le_of_ble_eq_true rfl⟩) (ep_preV hK hZ hw rfl (ckX4_findKept eo9)) rfl rfl hl.1 rfl (lv_room (Nat.le_of_ble_eq_true rfl)) dX4_mean_48 ⟨Nat.le_of_ble_eq_true rfl, Nat.le_of_ble_eq_true rfl⟩) hw (fun H locs hw => ?_)
          refine lv_aload_n hx hb dX4_mean_51 rfl (lv_at hl 0 rfl) ?_
          obtain ⟨v10, ev10, hf⟩ := ob_s hf
          refine ep_get (C := RX4) (T := TX4) (N := 32) (ci := 4) hx hb hts in_X4 hown hK hw rfl 24 (by decide) q1163 (gL_f ev10) dX4_mean_52 ?_
          refine lv_aload_n hx hb dX4_mean_55 rfl (lv_at hl 0 rfl) ?_
          obtain ⟨v11, ev11, hf⟩ := ob_s hf
          refine ep_get (C := RX4) (T := TX4) (N := 32) (ci := 4) hx hb hts in_X4 hown hK hw rfl 25 (by decide) q1164 (gL_f ev11) dX4_mean_56 ?_
          refine lv_iload hx hb dX4_mean_59 (lv_at hl 4 rfl) ?_
          obtain ⟨v12, ev12, hf⟩ := ob_s hf
          refine ep_calll0 (va_runS (As := [.long v10, .long v11, .int x4]) (rest := []) ⟨hx, hb, hml, hown, hts⟩ (metX4_told l G o9 v10 v11 x4 ev12) (va_cwS 3 hts (lw_S q1559 q1560 q89 q1561) rfl rfl rfl hsX4_told ⟨Nat.le_of_ble_eq_true rfl, Nat.le_of_ble_eq_true rfl⟩) (ep_preS hK hZ hw) rfl rfl hl.1 rfl (lv_room (Nat.le_of_ble_eq_true rfl)) dX4_mean_61 ⟨Nat.le_of_ble_eq_true rfl, Nat.le_of_ble_eq_true rfl⟩) hw (fun H locs hw => ?_)
          exact ep_retlW hx hb hr hlocks hw hf dX4_mean_64
        · have hf := oi_t hf c8
          refine lv_ldc2 (v := (-1 : Int64)) hx hb hown (hts _ q1554) dX4_mean_40 ?_
          exact ep_retlW hx hb hr hlocks hw hf dX4_mean_43
theorem hdX4_see : yX4_see.cls = RX4 ∧ yX4_see.cls ≠ "java/lang/invoke/MethodHandle" ∧ yX4_see.cls ≠ "java/lang/invoke/VarHandle" ∧ (parseMethodDescriptor yX4_see.desc).map (fun d => d.parameters.length) = some 3 := by decide +kernel
theorem ckX4_see {h : Hp} {a0 : Nat} {x1 : Int32} {x2 : Int32} {x3 : Int32} {res : Int32 × Hp} (hf : fX4_see h a0 x1 x2 x3 = some res) : ep_cls h a0 = some 4 := by
  unfold fX4_see at hf
  exact (oi_c hf).1
abbrev wX4_see (p : Program) (l : Launch) (e : Env) (s : State) (m : MethodId) (below : List Frame) (meth : Method) (c : Code) (G : EG) (h : Hp) (a0 : Nat) (x1 : Int32) (x2 : Int32) (x3 : Int32) (res : Int32 × Hp) (k9 n9 : Nat) (H : Heap) (locs : List Loc) (g : JFrame) : Prop := W p l e (headSpec (ws_ yX4_see cX4_see 5 (some .int)) ({ frames := 2, cells := 0, slots := 0, locals := 46 } : Room)).room s m ([.ref a0, .int x1, .int x2, .int x3] : List Value).toArray below meth c H locs k9 n9 (MQ below (ep_Qi G ep_cl res.2 res.1) ([.ref a0, .int x1, .int x2, .int x3] : List Value).toArray s 0 0 (ep_A G)) g
set_option maxHeartbeats 4000000 in
theorem metX4_see (l : Launch) (G : EG) (h : Hp) (a0 : Nat) (x1 : Int32) (x2 : Int32) (x3 : Int32) {res : Int32 × Hp} (hf : fX4_see h a0 x1 x2 x3 = some res) : Met l yX4_see (ws_ yX4_see cX4_see 5 (some .int)) ({ frames := 2, cells := 0, slots := 0, locals := 46 } : Room) (ep_Pc G ep_cl h [.ref a0, .int x1, .int x2, .int x3]) (ep_Qi G ep_cl res.2 res.1) 0 0 (ep_A G) := by
  refine Met.ofW (cc := cX4_see) (maxL := 5) (ret := (some .int)) (by decide) rfl ?_
  intro p e s m args below meth c s₁ B hml hv
  obtain ⟨rfl, hR, hK, hZ⟩ := hv
  have hx := B.exec
  have hb := B.bytes
  have hr := B.returns
  have hlocks := B.notSynchronized
  have hts := atoms_spec (ws := (ws_ yX4_see cX4_see 5 (some .int))) B.pre
  have hts : ∀ w ∈ lw_all, w.before _ s = true := fun w h => hts w (List.mem_cons_of_mem _ h)
  have hown : s.vm.findClass RX4 = some m.cls := findClass_of_methodNamed B.named
  have hw : ep_W G ep_cl h s s.heap [] := ⟨hR, va_S.rf⟩
  have hl := lv_entry ([.ref a0, .int x1, .int x2, .int x3]) (n := 5) (Nat.le_of_ble_eq_true rfl)
  rw [lg_entry_eq]
  generalize (lg_sl ([.ref a0, .int x1, .int x2, .int x3]) ++ List.replicate (5 - (lg_sl ([.ref a0, .int x1, .int x2, .int x3])).length) Slot.unset).toArray = ls at hl ⊢
  have hl : lv_has ls 5 [(0, .ref a0), (1, .int x1), (2, .int x2), (3, .int x3)] := hl
  unfold fX4_see at hf
  have hf := (oi_c hf).2
  show wX4_see p l e s m below meth c G h a0 x1 x2 x3 res 0 0 s.heap ([]) (F0 m 0 ls [])
  refine lv_aload_n hx hb dX4_see_0 rfl (lv_at hl 0 rfl) ?_
  refine lv_iload_n hx hb dX4_see_1 rfl (lv_at hl 1 rfl) ?_
  obtain ⟨v1, ev1, hf⟩ := ob_s hf
  refine ep_calli0 (va_runV (As := [.int x1]) (rest := []) ⟨hx, hb, hml, hown, hts⟩ (metX4_isPen l G h a0 x1 ev1) (cwV 1 hts (lw_V q1343 q1345 qs53 q89 q1346) rfl rfl rfl hdX4_isPen ⟨Nat.le_of_ble_eq_true rfl, Nat.le_of_ble_eq_true rfl⟩) (ep_preV hK hZ hw rfl (ckX4_isPen ev1)) rfl rfl hl.1 rfl (lv_room (Nat.le_of_ble_eq_true rfl)) dX4_see_2 ⟨Nat.le_of_ble_eq_true rfl, Nat.le_of_ble_eq_true rfl⟩) hw (fun H locs hw => ?_)
  refine lv_if_eq (tgt := 32) hx hb dX4_see_5 (by decide) (fun c2 => ?_) (fun c2 => ?_)
  · have hf := oi_t hf c2
    refine lv_iconst (v := iI (-1)) hx hb dX4_see_32 rfl ?_
    exact ep_retiW hx hb hr hlocks hw hf dX4_see_33
  · have hf := oi_f hf c2
    refine lv_iload_n hx hb dX4_see_8 rfl (lv_at hl 2 rfl) ?_
    refine lv_i2l (v := x2.toInt64) hx hb dX4_see_9 rfl ?_
    refine lv_lconst (v := lI 0) hx hb dX4_see_10 (by decide) ?_
    refine lv_ldc2 (v := (99 : Int64)) hx hb hown (hts _ q1408) dX4_see_11 ?_
    obtain ⟨v3, ev3, hf⟩ := ob_s hf
    refine ep_calli0 (va_runS (As := [.long x2.toInt64, .long (lI 0), .long (99 : Int64)]) (rest := []) ⟨hx, hb, hml, hown, hts⟩ (metX4_in l G h x2.toInt64 (lI 0) (99 : Int64) ev3) (va_cwS 3 hts (lw_S q1242 q1243 q89 q1244) rfl rfl rfl hsX4_in ⟨Nat.le_of_ble_eq_true rfl, Nat.le_of_ble_eq_true rfl⟩) (ep_preS hK hZ hw) rfl rfl hl.1 rfl (lv_room (Nat.le_of_ble_eq_true rfl)) dX4_see_14 ⟨Nat.le_of_ble_eq_true rfl, Nat.le_of_ble_eq_true rfl⟩) hw (fun H locs hw => ?_)
    refine lv_if_eq (tgt := 32) hx hb dX4_see_17 (by decide) (fun c4 => ?_) (fun c4 => ?_)
    · have hf := oi_t hf c4
      refine lv_iconst (v := iI (-1)) hx hb dX4_see_32 rfl ?_
      exact ep_retiW hx hb hr hlocks hw hf dX4_see_33
    · have hf := oi_f hf c4
      refine lv_iload_n hx hb dX4_see_20 rfl (lv_at hl 3 rfl) ?_
      refine lv_i2l (v := x3.toInt64) hx hb dX4_see_21 rfl ?_
      refine lv_lconst (v := lI 0) hx hb dX4_see_22 (by decide) ?_
      refine lv_ldc2 (v := (5 : Int64)) hx hb hown (hts _ q1573) dX4_see_23 ?_
      obtain ⟨v5, ev5, hf⟩ := ob_s hf
      refine ep_calli0 (va_runS (As := [.long x3.toInt64, .long (lI 0), .long (5 : Int64)]) (rest := []) ⟨hx, hb, hml, hown, hts⟩ (metX4_in l G h x3.toInt64 (lI 0) (5 : Int64) ev5) (va_cwS 3 hts (lw_S q1242 q1243 q89 q1244) rfl rfl rfl hsX4_in ⟨Nat.le_of_ble_eq_true rfl, Nat.le_of_ble_eq_true rfl⟩) (ep_preS hK hZ hw) rfl rfl hl.1 rfl (lv_room (Nat.le_of_ble_eq_true rfl)) dX4_see_26 ⟨Nat.le_of_ble_eq_true rfl, Nat.le_of_ble_eq_true rfl⟩) hw (fun H locs hw => ?_)
      refine lv_if_ne (tgt := 34) hx hb dX4_see_29 (by decide) (fun c6 => ?_) (fun c6 => ?_)
      · have hf := oi_f hf c6
        refine lv_aload_n hx hb dX4_see_34 rfl (lv_at hl 0 rfl) ?_
        obtain ⟨r7, er7, hf⟩ := ob_s hf
        refine ep_get (C := RX4) (T := TX4) (N := 32) (ci := 4) hx hb hts in_X4 hown hK hw rfl 0 (by decide) q1139 (gR_f er7) dX4_see_35 ?_
        refine lv_bipush (v := iI 56) hx hb dX4_see_38 (by decide) ?_
        obtain ⟨v8, ev8, hf⟩ := ob_s hf
        refine ep_iald hx hb hK hw ev8 dX4_see_40 ?_
        refine lv_bipush (v := iI 6) hx hb dX4_see_41 (by decide) ?_
        refine lv_icmp_ne (tgt := 49) hx hb dX4_see_43 (by decide) (fun c9 => ?_) (fun c9 => ?_)
        · have hf := oi_f hf c9
          refine lv_bipush (v := iI 57) hx hb dX4_see_49 (by decide) ?_
          refine lv_iconst (v := iI 3) hx hb dX4_see_51 rfl ?_
          refine lv_aload_n hx hb dX4_see_52 rfl (lv_at hl 0 rfl) ?_
          obtain ⟨r10, er10, hf⟩ := ob_s hf
          refine ep_get (C := RX4) (T := TX4) (N := 32) (ci := 4) hx hb hts in_X4 hown hK hw rfl 0 (by decide) q1139 (gR_f er10) dX4_see_53 ?_
          refine lv_bipush (v := iI 56) hx hb dX4_see_56 (by decide) ?_
          obtain ⟨v11, ev11, hf⟩ := ob_s hf
          refine ep_iald hx hb hK hw ev11 dX4_see_58 ?_
          refine lv_imul hx hb dX4_see_59 ?_
          refine lv_iadd hx hb dX4_see_60 ?_
          refine lv_istore (lv' := [(4, .int ((iI 57) + ((iI 3) * v11))), (0, .ref a0), (1, .int x1), (2, .int x2), (3, .int x3)]) hx hb dX4_see_61 hl (by decide) rfl (fun ls hl => ?_)
          refine lv_aload_n hx hb dX4_see_63 rfl (lv_at hl 1 rfl) ?_
          obtain ⟨r12, er12, hf⟩ := ob_s hf
          refine ep_get (C := RX4) (T := TX4) (N := 32) (ci := 4) hx hb hts in_X4 hown hK hw rfl 0 (by decide) q1139 (gR_f er12) dX4_see_64 ?_
          refine lv_iload hx hb dX4_see_67 (lv_at hl 0 rfl) ?_
          refine lv_iload_n hx hb dX4_see_69 rfl (lv_at hl 2 rfl) ?_
          obtain ⟨h13, eh13, hf⟩ := ob_s hf
          refine ep_iast hx hb hK hw eh13 dX4_see_70 (fun H locs hw => ?_)
          refine lv_aload_n hx hb dX4_see_71 rfl (lv_at hl 1 rfl) ?_
          obtain ⟨r14, er14, hf⟩ := ob_s hf
          refine ep_get (C := RX4) (T := TX4) (N := 32) (ci := 4) hx hb hts in_X4 hown hK hw rfl 0 (by decide) q1139 (gR_f er14) dX4_see_72 ?_
          refine lv_iload hx hb dX4_see_75 (lv_at hl 0 rfl) ?_
          refine lv_iconst (v := iI 1) hx hb dX4_see_77 rfl ?_
          refine lv_iadd hx hb dX4_see_78 ?_
          refine lv_iload_n hx hb dX4_see_79 rfl (lv_at hl 3 rfl) ?_
          obtain ⟨h15, eh15, hf⟩ := ob_s hf
          refine ep_iast hx hb hK hw eh15 dX4_see_80 (fun H locs hw => ?_)
          refine lv_aload_n hx hb dX4_see_81 rfl (lv_at hl 1 rfl) ?_
          obtain ⟨r16, er16, hf⟩ := ob_s hf
          refine ep_get (C := RX4) (T := TX4) (N := 32) (ci := 4) hx hb hts in_X4 hown hK hw rfl 0 (by decide) q1139 (gR_f er16) dX4_see_82 ?_
          refine lv_iload hx hb dX4_see_85 (lv_at hl 0 rfl) ?_
          refine lv_iconst (v := iI 2) hx hb dX4_see_87 rfl ?_
          refine lv_iadd hx hb dX4_see_88 ?_
          refine lv_iload_n hx hb dX4_see_89 rfl (lv_at hl 4 rfl) ?_
          obtain ⟨h17, eh17, hf⟩ := ob_s hf
          refine ep_iast hx hb hK hw eh17 dX4_see_90 (fun H locs hw => ?_)
          refine lv_aload_n hx hb dX4_see_91 rfl (lv_at hl 1 rfl) ?_
          obtain ⟨r18, er18, hf⟩ := ob_s hf
          refine ep_get (C := RX4) (T := TX4) (N := 32) (ci := 4) hx hb hts in_X4 hown hK hw rfl 0 (by decide) q1139 (gR_f er18) dX4_see_92 ?_
          refine lv_bipush (v := iI 56) hx hb dX4_see_95 (by decide) ?_
          refine lv_dup2_11 hx hb dX4_see_97 rfl rfl ?_
          obtain ⟨v19, ev19, hf⟩ := ob_s hf
          refine ep_iald hx hb hK hw ev19 dX4_see_98 ?_
          refine lv_iconst (v := iI 1) hx hb dX4_see_99 rfl ?_
          refine lv_iadd hx hb dX4_see_100 ?_
          obtain ⟨h20, eh20, hf⟩ := ob_s hf
          refine ep_iast hx hb hK hw eh20 dX4_see_101 (fun H locs hw => ?_)
          refine lv_aload_n hx hb dX4_see_102 rfl (lv_at hl 1 rfl) ?_
          obtain ⟨r21, er21, hf⟩ := ob_s hf
          refine ep_get (C := RX4) (T := TX4) (N := 32) (ci := 4) hx hb hts in_X4 hown hK hw rfl 0 (by decide) q1139 (gR_f er21) dX4_see_103 ?_
          refine lv_bipush (v := iI 56) hx hb dX4_see_106 (by decide) ?_
          obtain ⟨v22, ev22, hf⟩ := ob_s hf
          refine ep_iald hx hb hK hw ev22 dX4_see_108 ?_
          exact ep_retiW hx hb hr hlocks hw hf dX4_see_109
        · have hf := oi_t hf c9
          refine lv_bipush (v := iI (-3)) hx hb dX4_see_46 (by decide) ?_
          exact ep_retiW hx hb hr hlocks hw hf dX4_see_48
      · have hf := oi_t hf c6
        refine lv_iconst (v := iI (-1)) hx hb dX4_see_32 rfl ?_
        exact ep_retiW hx hb hr hlocks hw hf dX4_see_33
theorem hdX4_forget : yX4_forget.cls = RX4 ∧ yX4_forget.cls ≠ "java/lang/invoke/MethodHandle" ∧ yX4_forget.cls ≠ "java/lang/invoke/VarHandle" ∧ (parseMethodDescriptor yX4_forget.desc).map (fun d => d.parameters.length) = some 1 := by decide +kernel
theorem ckX4_forget {h : Hp} {a0 : Nat} {x1 : Int32} {res : Int32 × Hp} (hf : fX4_forget h a0 x1 = some res) : ep_cls h a0 = some 4 := by
  unfold fX4_forget at hf
  exact (oi_c hf).1
abbrev wX4_forget (p : Program) (l : Launch) (e : Env) (s : State) (m : MethodId) (below : List Frame) (meth : Method) (c : Code) (G : EG) (h : Hp) (a0 : Nat) (x1 : Int32) (res : Int32 × Hp) (k9 n9 : Nat) (H : Heap) (locs : List Loc) (g : JFrame) : Prop := W p l e (headSpec (ws_ yX4_forget cX4_forget 2 (some .int)) ({ frames := 1, cells := 0, slots := 0, locals := 25 } : Room)).room s m ([.ref a0, .int x1] : List Value).toArray below meth c H locs k9 n9 (MQ below (ep_Qi G ep_cl res.2 res.1) ([.ref a0, .int x1] : List Value).toArray s 0 0 (ep_A G)) g
set_option maxHeartbeats 4000000 in
theorem metX4_forget (l : Launch) (G : EG) (h : Hp) (a0 : Nat) (x1 : Int32) {res : Int32 × Hp} (hf : fX4_forget h a0 x1 = some res) : Met l yX4_forget (ws_ yX4_forget cX4_forget 2 (some .int)) ({ frames := 1, cells := 0, slots := 0, locals := 25 } : Room) (ep_Pc G ep_cl h [.ref a0, .int x1]) (ep_Qi G ep_cl res.2 res.1) 0 0 (ep_A G) := by
  refine Met.ofW (cc := cX4_forget) (maxL := 2) (ret := (some .int)) (by decide) rfl ?_
  intro p e s m args below meth c s₁ B hml hv
  obtain ⟨rfl, hR, hK, hZ⟩ := hv
  have hx := B.exec
  have hb := B.bytes
  have hr := B.returns
  have hlocks := B.notSynchronized
  have hts := atoms_spec (ws := (ws_ yX4_forget cX4_forget 2 (some .int))) B.pre
  have hts : ∀ w ∈ lw_all, w.before _ s = true := fun w h => hts w (List.mem_cons_of_mem _ h)
  have hown : s.vm.findClass RX4 = some m.cls := findClass_of_methodNamed B.named
  have hw : ep_W G ep_cl h s s.heap [] := ⟨hR, va_S.rf⟩
  have hl := lv_entry ([.ref a0, .int x1]) (n := 2) (Nat.le_of_ble_eq_true rfl)
  rw [lg_entry_eq]
  generalize (lg_sl ([.ref a0, .int x1]) ++ List.replicate (2 - (lg_sl ([.ref a0, .int x1])).length) Slot.unset).toArray = ls at hl ⊢
  have hl : lv_has ls 2 [(0, .ref a0), (1, .int x1)] := hl
  unfold fX4_forget at hf
  have hf := (oi_c hf).2
  show wX4_forget p l e s m below meth c G h a0 x1 res 0 0 s.heap ([]) (F0 m 0 ls [])
  refine lv_iload_n hx hb dX4_forget_0 rfl (lv_at hl 1 rfl) ?_
  refine lv_i2l (v := x1.toInt64) hx hb dX4_forget_1 rfl ?_
  refine lv_lconst (v := lI 0) hx hb dX4_forget_2 (by decide) ?_
  refine lv_aload_n hx hb dX4_forget_3 rfl (lv_at hl 0 rfl) ?_
  obtain ⟨r1, er1, hf⟩ := ob_s hf
  refine ep_get (C := RX4) (T := TX4) (N := 32) (ci := 4) hx hb hts in_X4 hown hK hw rfl 0 (by decide) q1139 (gR_f er1) dX4_forget_4 ?_
  refine lv_bipush (v := iI 56) hx hb dX4_forget_7 (by decide) ?_
  obtain ⟨v2, ev2, hf⟩ := ob_s hf
  refine ep_iald hx hb hK hw ev2 dX4_forget_9 ?_
  refine lv_i2l (v := v2.toInt64) hx hb dX4_forget_10 rfl ?_
  obtain ⟨v3, ev3, hf⟩ := ob_s hf
  refine ep_calli0 (va_runS (As := [.long x1.toInt64, .long (lI 0), .long v2.toInt64]) (rest := []) ⟨hx, hb, hml, hown, hts⟩ (metX4_in l G h x1.toInt64 (lI 0) v2.toInt64 ev3) (va_cwS 3 hts (lw_S q1242 q1243 q89 q1244) rfl rfl rfl hsX4_in ⟨Nat.le_of_ble_eq_true rfl, Nat.le_of_ble_eq_true rfl⟩) (ep_preS hK hZ hw) rfl rfl hl.1 rfl (lv_room (Nat.le_of_ble_eq_true rfl)) dX4_forget_11 ⟨Nat.le_of_ble_eq_true rfl, Nat.le_of_ble_eq_true rfl⟩) hw (fun H locs hw => ?_)
  refine lv_if_eq (tgt := 27) hx hb dX4_forget_14 (by decide) (fun c4 => ?_) (fun c4 => ?_)
  · have hf := oi_t hf c4
    refine lv_iconst (v := iI (-1)) hx hb dX4_forget_27 rfl ?_
    exact ep_retiW hx hb hr hlocks hw hf dX4_forget_28
  · have hf := oi_f hf c4
    refine lv_aload_n hx hb dX4_forget_17 rfl (lv_at hl 0 rfl) ?_
    refine lv_bipush (v := iI 56) hx hb dX4_forget_18 (by decide) ?_
    refine lv_iload_n hx hb dX4_forget_20 rfl (lv_at hl 1 rfl) ?_
    obtain ⟨o5, eo5, hf⟩ := ob_s hf
    refine ep_calli0 (va_runV (As := [.int (iI 56), .int x1]) (rest := []) ⟨hx, hb, hml, hown, hts⟩ (metX4_becomes l G h a0 (iI 56) x1 eo5) (cwV 2 hts (lw_V q1391 q1393 qs60 q89 q1394) rfl rfl rfl hdX4_becomes ⟨Nat.le_of_ble_eq_true rfl, Nat.le_of_ble_eq_true rfl⟩) (ep_preV hK hZ hw rfl (ckX4_becomes eo5)) rfl rfl hl.1 rfl (lv_room (Nat.le_of_ble_eq_true rfl)) dX4_forget_21 ⟨Nat.le_of_ble_eq_true rfl, Nat.le_of_ble_eq_true rfl⟩) hw (fun H locs hw => ?_)
    refine lv_goto (tgt := 28) hx hb dX4_forget_24 (by decide) ?_
    exact ep_retiW hx hb hr hlocks hw hf dX4_forget_28
theorem hdX4_isSo : yX4_isSo.cls = RX4 ∧ yX4_isSo.cls ≠ "java/lang/invoke/MethodHandle" ∧ yX4_isSo.cls ≠ "java/lang/invoke/VarHandle" ∧ (parseMethodDescriptor yX4_isSo.desc).map (fun d => d.parameters.length) = some 1 := by decide +kernel
theorem ckX4_isSo {h : Hp} {a0 : Nat} {x1 : Int32} {res : Int32 × Hp} (hf : fX4_isSo h a0 x1 = some res) : ep_cls h a0 = some 4 := by
  unfold fX4_isSo at hf
  exact (oi_c hf).1
abbrev wX4_isSo (p : Program) (l : Launch) (e : Env) (s : State) (m : MethodId) (below : List Frame) (meth : Method) (c : Code) (G : EG) (h : Hp) (a0 : Nat) (x1 : Int32) (res : Int32 × Hp) (k9 n9 : Nat) (H : Heap) (locs : List Loc) (g : JFrame) : Prop := W p l e (headSpec (ws_ yX4_isSo cX4_isSo 5 (some .boolean)) ({ frames := 6, cells := 0, slots := 0, locals := 135 } : Room)).room s m ([.ref a0, .int x1] : List Value).toArray below meth c H locs k9 n9 (MQ below (ep_Qi G ep_cl res.2 res.1) ([.ref a0, .int x1] : List Value).toArray s 0 0 (ep_A G)) g
set_option maxHeartbeats 4000000 in
theorem metX4_isSo (l : Launch) (G : EG) (h : Hp) (a0 : Nat) (x1 : Int32) {res : Int32 × Hp} (hf : fX4_isSo h a0 x1 = some res) : Met l yX4_isSo (ws_ yX4_isSo cX4_isSo 5 (some .boolean)) ({ frames := 6, cells := 0, slots := 0, locals := 135 } : Room) (ep_Pc G ep_cl h [.ref a0, .int x1]) (ep_Qi G ep_cl res.2 res.1) 0 0 (ep_A G) := by
  refine Met.ofW (cc := cX4_isSo) (maxL := 5) (ret := (some .boolean)) (by decide) rfl ?_
  intro p e s m args below meth c s₁ B hml hv
  obtain ⟨rfl, hR, hK, hZ⟩ := hv
  have hx := B.exec
  have hb := B.bytes
  have hr := B.returns
  have hlocks := B.notSynchronized
  have hts := atoms_spec (ws := (ws_ yX4_isSo cX4_isSo 5 (some .boolean))) B.pre
  have hts : ∀ w ∈ lw_all, w.before _ s = true := fun w h => hts w (List.mem_cons_of_mem _ h)
  have hown : s.vm.findClass RX4 = some m.cls := findClass_of_methodNamed B.named
  have hw : ep_W G ep_cl h s s.heap [] := ⟨hR, va_S.rf⟩
  have hl := lv_entry ([.ref a0, .int x1]) (n := 5) (Nat.le_of_ble_eq_true rfl)
  rw [lg_entry_eq]
  generalize (lg_sl ([.ref a0, .int x1]) ++ List.replicate (5 - (lg_sl ([.ref a0, .int x1])).length) Slot.unset).toArray = ls at hl ⊢
  have hl : lv_has ls 5 [(0, .ref a0), (1, .int x1)] := hl
  unfold fX4_isSo at hf
  have hf := (oi_c hf).2
  show wX4_isSo p l e s m below meth c G h a0 x1 res 0 0 s.heap ([]) (F0 m 0 ls [])
  refine lv_aload_n hx hb dX4_isSo_0 rfl (lv_at hl 0 rfl) ?_
  refine lv_iload_n hx hb dX4_isSo_1 rfl (lv_at hl 1 rfl) ?_
  obtain ⟨o1, eo1, hf⟩ := ob_s hf
  refine ep_calli0 (va_runV (As := [.int x1]) (rest := []) ⟨hx, hb, hml, hown, hts⟩ (metX4_drivesBy l G h a0 x1 eo1) (cwV 1 hts (lw_V q1539 q1541 qs79 q89 q1542) rfl rfl rfl hdX4_drivesBy ⟨Nat.le_of_ble_eq_true rfl, Nat.le_of_ble_eq_true rfl⟩) (ep_preV hK hZ hw rfl (ckX4_drivesBy eo1)) rfl rfl hl.1 rfl (lv_room (Nat.le_of_ble_eq_true rfl)) dX4_isSo_2 ⟨Nat.le_of_ble_eq_true rfl, Nat.le_of_ble_eq_true rfl⟩) hw (fun H locs hw => ?_)
  refine lv_istore_n (lv' := [(2, .int o1.1), (0, .ref a0), (1, .int x1)]) hx hb dX4_isSo_5 rfl hl (by decide) rfl (fun ls hl => ?_)
  refine lv_iconst (v := iI 0) hx hb dX4_isSo_6 rfl ?_
  refine lv_istore_n (lv' := [(3, .int (iI 0)), (2, .int o1.1), (0, .ref a0), (1, .int x1)]) hx hb dX4_isSo_7 rfl hl (by decide) rfl (fun ls hl => ?_)
  obtain ⟨o2, ho2, hf⟩ := ob_s hf
  have hJ2 : ∀ (H : Heap) (locs : List Loc) (ls : Array Slot), ep_W G ep_cl o1.2 s H locs → lv_has ls 5 [(2, .int o2)] → wX4_isSo p l e s m below meth c G h a0 x1 res 0 0 H locs (F0 m 78 ls []) := by
    intro H locs ls hw hl
    refine lv_iload_n hx hb dX4_isSo_78 rfl (lv_at hl 0 rfl) ?_
    obtain ⟨z, ez, hf⟩ := ob_s hf
    obtain ⟨hz, hn⟩ := ckZ_s ez
    rw [hz] at hf
    exact ep_retzW hx hb hr hn hlocks hw hf dX4_isSo_79
  have hL2 : ∀ (fu : Nat) (x2 : Int32) (x3 : Int32), fX4_isSo_L8 o1.2 a0 fu x2 x3 = some o2 → ∀ (H : Heap) (locs : List Loc) (ls : Array Slot), ep_W G ep_cl o1.2 s H locs → lv_has ls 5 [(0, .ref a0), (2, .int x2), (3, .int x3)] → wX4_isSo p l e s m below meth c G h a0 x1 res 0 0 H locs (F0 m 8 ls []) := by
    intro fu
    induction fu with
    | zero => intro x2 x3 ho2; cases ho2
    | succ fu ih2 =>
      intro x2 x3 ho2 H locs ls hw hl
      rw [fX4_isSo_L8] at ho2
      refine lv_iload_n hx hb dX4_isSo_8 rfl (lv_at hl 2 rfl) ?_
      refine lv_aload_n hx hb dX4_isSo_9 rfl (lv_at hl 0 rfl) ?_
      obtain ⟨r3, er3, ho2⟩ := ob_s ho2
      refine ep_get (C := RX4) (T := TX4) (N := 32) (ci := 4) hx hb hts in_X4 hown hK hw rfl 0 (by decide) q1139 (gR_f er3) dX4_isSo_10 ?_
      refine lv_bipush (v := iI 56) hx hb dX4_isSo_13 (by decide) ?_
      obtain ⟨v4, ev4, ho2⟩ := ob_s ho2
      refine ep_iald hx hb hK hw ev4 dX4_isSo_15 ?_
      refine lv_icmp_ge (tgt := 78) hx hb dX4_isSo_16 (by decide) (fun c5 => ?_) (fun c5 => ?_)
      · have ho2 := oi_t ho2 c5
        obtain rfl := Option.some.inj ho2
        exact hJ2 _ _ _ hw (lv_sub hl [1] rfl)
      · have ho2 := oi_f ho2 c5
        refine lv_iload_n hx hb dX4_isSo_19 rfl (lv_at hl 1 rfl) ?_
        refine lv_if_eq (tgt := 78) hx hb dX4_isSo_20 (by decide) (fun c6 => ?_) (fun c6 => ?_)
        · have ho2 := oi_t ho2 c6
          obtain rfl := Option.some.inj ho2
          exact hJ2 _ _ _ hw (lv_sub hl [1] rfl)
        · have ho2 := oi_f ho2 c6
          refine lv_bipush (v := iI 57) hx hb dX4_isSo_23 (by decide) ?_
          refine lv_iconst (v := iI 3) hx hb dX4_isSo_25 rfl ?_
          refine lv_iload_n hx hb dX4_isSo_26 rfl (lv_at hl 2 rfl) ?_
          refine lv_imul hx hb dX4_isSo_27 ?_
          refine lv_iadd hx hb dX4_isSo_28 ?_
          refine lv_istore (lv' := [(4, .int ((iI 57) + ((iI 3) * x3))), (0, .ref a0), (2, .int x2), (3, .int x3)]) hx hb dX4_isSo_29 hl (by decide) rfl (fun ls hl => ?_)
          refine lv_aload_n hx hb dX4_isSo_31 rfl (lv_at hl 1 rfl) ?_
          refine lv_aload_n hx hb dX4_isSo_32 rfl (lv_at hl 1 rfl) ?_
          obtain ⟨r7, er7, ho2⟩ := ob_s ho2
          refine ep_get (C := RX4) (T := TX4) (N := 32) (ci := 4) hx hb hts in_X4 hown hK hw rfl 0 (by decide) q1139 (gR_f er7) dX4_isSo_33 ?_
          refine lv_iload hx hb dX4_isSo_36 (lv_at hl 0 rfl) ?_
          obtain ⟨v8, ev8, ho2⟩ := ob_s ho2
          refine ep_iald hx hb hK hw ev8 dX4_isSo_38 ?_
          refine lv_aload_n hx hb dX4_isSo_39 rfl (lv_at hl 1 rfl) ?_
          obtain ⟨r9, er9, ho2⟩ := ob_s ho2
          refine ep_get (C := RX4) (T := TX4) (N := 32) (ci := 4) hx hb hts in_X4 hown hK hw rfl 0 (by decide) q1139 (gR_f er9) dX4_isSo_40 ?_
          refine lv_iload hx hb dX4_isSo_43 (lv_at hl 0 rfl) ?_
          refine lv_iconst (v := iI 1) hx hb dX4_isSo_45 rfl ?_
          refine lv_iadd hx hb dX4_isSo_46 ?_
          obtain ⟨v10, ev10, ho2⟩ := ob_s ho2
          refine ep_iald hx hb hK hw ev10 dX4_isSo_47 ?_
          obtain ⟨v11, ev11, ho2⟩ := ob_s ho2
          refine ep_calli0 (va_runV (As := [.int v8, .int v10]) (rest := []) ⟨hx, hb, hml, hown, hts⟩ (metX4_heardIn l G o1.2 a0 v8 v10 ev11) (cwV 2 hts (lw_V q1479 q1481 qs71 q89 q1482) rfl rfl rfl hdX4_heardIn ⟨Nat.le_of_ble_eq_true rfl, Nat.le_of_ble_eq_true rfl⟩) (ep_preV hK hZ hw rfl (ckX4_heardIn ev11)) rfl rfl hl.1 rfl (lv_room (Nat.le_of_ble_eq_true rfl)) dX4_isSo_48 ⟨Nat.le_of_ble_eq_true rfl, Nat.le_of_ble_eq_true rfl⟩) hw (fun H locs hw => ?_)
          obtain ⟨v12, ev12, ho2⟩ := ob_s ho2
          refine ep_calli0 (va_runS (As := [.int v11]) (rest := []) ⟨hx, hb, hml, hown, hts⟩ (metX4_bitsOf l G o1.2 v11 ev12) (va_cwS 1 hts (lw_S q1388 q1389 q89 q1390) rfl rfl rfl hsX4_bitsOf ⟨Nat.le_of_ble_eq_true rfl, Nat.le_of_ble_eq_true rfl⟩) (ep_preS hK hZ hw) rfl rfl hl.1 rfl (lv_room (Nat.le_of_ble_eq_true rfl)) dX4_isSo_51 ⟨Nat.le_of_ble_eq_true rfl, Nat.le_of_ble_eq_true rfl⟩) hw (fun H locs hw => ?_)
          refine lv_aload_n hx hb dX4_isSo_54 rfl (lv_at hl 1 rfl) ?_
          obtain ⟨r13, er13, ho2⟩ := ob_s ho2
          refine ep_get (C := RX4) (T := TX4) (N := 32) (ci := 4) hx hb hts in_X4 hown hK hw rfl 0 (by decide) q1139 (gR_f er13) dX4_isSo_55 ?_
          refine lv_iload hx hb dX4_isSo_58 (lv_at hl 0 rfl) ?_
          refine lv_iconst (v := iI 2) hx hb dX4_isSo_60 rfl ?_
          refine lv_iadd hx hb dX4_isSo_61 ?_
          obtain ⟨v14, ev14, ho2⟩ := ob_s ho2
          refine ep_iald hx hb hK hw ev14 dX4_isSo_62 ?_
          have hJ15 : wX4_isSo p l e s m below meth c G h a0 x1 res 0 0 H locs (F0 m 71 ls [.int (if v12 = v14 then iI 1 else iI 0)]) := by
            refine lv_istore_n (lv' := [(2, .int (if v12 = v14 then iI 1 else iI 0)), (4, .int ((iI 57) + ((iI 3) * x3))), (0, .ref a0), (3, .int x3)]) hx hb dX4_isSo_71 rfl hl (by decide) rfl (fun ls hl => ?_)
            refine lv_iinc (v := (x3 + iI 1)) (lv' := [(3, .int (x3 + iI 1)), (2, .int (if v12 = v14 then iI 1 else iI 0)), (4, .int ((iI 57) + ((iI 3) * x3))), (0, .ref a0)]) hx hb dX4_isSo_72 hl (k := 3) rfl rfl (by decide) rfl (fun ls hl => ?_)
            refine lv_goto (tgt := 8) hx hb dX4_isSo_75 (by decide) ?_
            exact ih2 _ _ ho2 _ _ _ hw (lv_sub hl [3, 1, 0] rfl)
          refine lv_icmp_ne (tgt := 70) hx hb dX4_isSo_63 (by decide) (fun c16 => ?_) (fun c16 => ?_)
          · refine lv_iconst (v := iI 0) hx hb dX4_isSo_70 rfl ?_
            rw [if_neg c16] at hJ15
            exact hJ15
          · refine lv_iconst (v := iI 1) hx hb dX4_isSo_66 rfl ?_
            refine lv_goto (tgt := 71) hx hb dX4_isSo_67 (by decide) ?_
            rw [if_pos c16] at hJ15
            exact hJ15
  exact hL2 FUEL _ _ ho2 _ _ _ hw (lv_sub hl [2, 1, 0] rfl)
theorem hdX4_fits : yX4_fits.cls = RX4 ∧ yX4_fits.cls ≠ "java/lang/invoke/MethodHandle" ∧ yX4_fits.cls ≠ "java/lang/invoke/VarHandle" ∧ (parseMethodDescriptor yX4_fits.desc).map (fun d => d.parameters.length) = some 1 := by decide +kernel
theorem ckX4_fits {h : Hp} {a0 : Nat} {x1 : Int32} {res : Int32 × Hp} (hf : fX4_fits h a0 x1 = some res) : ep_cls h a0 = some 4 := by
  unfold fX4_fits at hf
  exact (oi_c hf).1
abbrev wX4_fits (p : Program) (l : Launch) (e : Env) (s : State) (m : MethodId) (below : List Frame) (meth : Method) (c : Code) (G : EG) (h : Hp) (a0 : Nat) (x1 : Int32) (res : Int32 × Hp) (k9 n9 : Nat) (H : Heap) (locs : List Loc) (g : JFrame) : Prop := W p l e (headSpec (ws_ yX4_fits cX4_fits 6 (some .int)) ({ frames := 7, cells := 0, slots := 0, locals := 159 } : Room)).room s m ([.ref a0, .int x1] : List Value).toArray below meth c H locs k9 n9 (MQ below (ep_Qi G ep_cl res.2 res.1) ([.ref a0, .int x1] : List Value).toArray s 0 0 (ep_A G)) g
set_option maxHeartbeats 4000000 in
theorem metX4_fits (l : Launch) (G : EG) (h : Hp) (a0 : Nat) (x1 : Int32) {res : Int32 × Hp} (hf : fX4_fits h a0 x1 = some res) : Met l yX4_fits (ws_ yX4_fits cX4_fits 6 (some .int)) ({ frames := 7, cells := 0, slots := 0, locals := 159 } : Room) (ep_Pc G ep_cl h [.ref a0, .int x1]) (ep_Qi G ep_cl res.2 res.1) 0 0 (ep_A G) := by
  refine Met.ofW (cc := cX4_fits) (maxL := 6) (ret := (some .int)) (by decide) rfl ?_
  intro p e s m args below meth c s₁ B hml hv
  obtain ⟨rfl, hR, hK, hZ⟩ := hv
  have hx := B.exec
  have hb := B.bytes
  have hr := B.returns
  have hlocks := B.notSynchronized
  have hts := atoms_spec (ws := (ws_ yX4_fits cX4_fits 6 (some .int))) B.pre
  have hts : ∀ w ∈ lw_all, w.before _ s = true := fun w h => hts w (List.mem_cons_of_mem _ h)
  have hown : s.vm.findClass RX4 = some m.cls := findClass_of_methodNamed B.named
  have hw : ep_W G ep_cl h s s.heap [] := ⟨hR, va_S.rf⟩
  have hl := lv_entry ([.ref a0, .int x1]) (n := 6) (Nat.le_of_ble_eq_true rfl)
  rw [lg_entry_eq]
  generalize (lg_sl ([.ref a0, .int x1]) ++ List.replicate (6 - (lg_sl ([.ref a0, .int x1])).length) Slot.unset).toArray = ls at hl ⊢
  have hl : lv_has ls 6 [(0, .ref a0), (1, .int x1)] := hl
  unfold fX4_fits at hf
  have hf := (oi_c hf).2
  show wX4_fits p l e s m below meth c G h a0 x1 res 0 0 s.heap ([]) (F0 m 0 ls [])
  refine lv_iload_n hx hb dX4_fits_0 rfl (lv_at hl 1 rfl) ?_
  obtain ⟨ox1, ho1, hk1⟩ := orL_s hf
  have hT1 : ∀ r, ox1 = .inl r → some r = some res := fun r eo => (by have e := orL_1 hk1 eo; exact e)
  have hJ1 : ∀ o1, ox1 = .inr o1 → ∀ (H : Heap) (locs : List Loc) (ls : Array Slot), ep_W G ep_cl h s H locs → lv_has ls 6 [(0, .ref a0), (1, .int x1)] → wX4_fits p l e s m below meth c G h a0 x1 res 0 0 H locs (F0 m 17 ls []) := by
    intro o1 eo H locs ls hw hl
    have hf := orL_2 hk1 eo
    refine lv_iconst (v := iI 0) hx hb dX4_fits_17 rfl ?_
    refine lv_istore_n (lv' := [(2, .int (iI 0)), (0, .ref a0), (1, .int x1)]) hx hb dX4_fits_18 rfl hl (by decide) rfl (fun ls hl => ?_)
    refine lv_iconst (v := iI 0) hx hb dX4_fits_19 rfl ?_
    refine lv_istore_n (lv' := [(3, .int (iI 0)), (2, .int (iI 0)), (0, .ref a0), (1, .int x1)]) hx hb dX4_fits_20 rfl hl (by decide) rfl (fun ls hl => ?_)
    refine lv_iconst (v := iI 0) hx hb dX4_fits_21 rfl ?_
    refine lv_istore (lv' := [(4, .int (iI 0)), (3, .int (iI 0)), (2, .int (iI 0)), (0, .ref a0), (1, .int x1)]) hx hb dX4_fits_22 hl (by decide) rfl (fun ls hl => ?_)
    obtain ⟨o5, ho5, hf⟩ := ob_s hf
    have hJ5 : ∀ (H : Heap) (locs : List Loc) (ls : Array Slot), ep_W G ep_cl o5.1 s H locs → lv_has ls 6 [(1, .int x1), (2, .int o5.2.1), (3, .int o5.2.2)] → wX4_fits p l e s m below meth c G h a0 x1 res 0 0 H locs (F0 m 89 ls []) := by
      intro H locs ls hw hl
      refine lv_iload_n hx hb dX4_fits_89 rfl (lv_at hl 0 rfl) ?_
      refine lv_if_ne (tgt := 97) hx hb dX4_fits_90 (by decide) (fun c16 => ?_) (fun c16 => ?_)
      · have hf := oi_f hf c16
        refine lv_iload_n hx hb dX4_fits_97 rfl (lv_at hl 2 rfl) ?_
        exact ep_retiW hx hb hr hlocks hw hf dX4_fits_98
      · have hf := oi_t hf c16
        refine lv_iload_n hx hb dX4_fits_93 rfl (lv_at hl 1 rfl) ?_
        refine lv_goto (tgt := 98) hx hb dX4_fits_94 (by decide) ?_
        exact ep_retiW hx hb hr hlocks hw hf dX4_fits_98
    have hL5 : ∀ (fu : Nat) (h : Hp) (x2 : Int32) (x3 : Int32) (x4 : Int32), fX4_fits_L24 a0 x1 fu h x2 x3 x4 = some o5 → ∀ (H : Heap) (locs : List Loc) (ls : Array Slot), ep_W G ep_cl h s H locs → lv_has ls 6 [(0, .ref a0), (1, .int x1), (2, .int x2), (3, .int x3), (4, .int x4)] → wX4_fits p l e s m below meth c G h a0 x1 res 0 0 H locs (F0 m 24 ls []) := by
      intro fu
      induction fu with
      | zero => intro h x2 x3 x4 ho5; cases ho5
      | succ fu ih5 =>
        intro h x2 x3 x4 ho5 H locs ls hw hl
        rw [fX4_fits_L24] at ho5
        refine lv_iload hx hb dX4_fits_24 (lv_at hl 4 rfl) ?_
        refine lv_aload_n hx hb dX4_fits_26 rfl (lv_at hl 0 rfl) ?_
        obtain ⟨v6, ev6, ho5⟩ := ob_s ho5
        refine ep_calli0 (va_runV (As := []) (rest := [.int x4]) ⟨hx, hb, hml, hown, hts⟩ (metX4_droves l G h a0 ev6) (cwV 0 hts (lw_V q1535 q1537 qs78 q89 q1538) rfl rfl rfl hdX4_droves ⟨Nat.le_of_ble_eq_true rfl, Nat.le_of_ble_eq_true rfl⟩) (ep_preV hK hZ hw rfl (ckX4_droves ev6)) rfl rfl hl.1 rfl (lv_room (Nat.le_of_ble_eq_true rfl)) dX4_fits_27 ⟨Nat.le_of_ble_eq_true rfl, Nat.le_of_ble_eq_true rfl⟩) hw (fun H locs hw => ?_)
        refine lv_icmp_ge (tgt := 89) hx hb dX4_fits_30 (by decide) (fun c7 => ?_) (fun c7 => ?_)
        · have ho5 := oi_t ho5 c7
          obtain rfl := Option.some.inj ho5
          exact hJ5 _ _ _ hw (lv_sub hl [1, 2, 3] rfl)
        · have ho5 := oi_f ho5 c7
          refine lv_aload_n hx hb dX4_fits_33 rfl (lv_at hl 0 rfl) ?_
          refine lv_iload hx hb dX4_fits_34 (lv_at hl 4 rfl) ?_
          obtain ⟨o8, eo8, ho5⟩ := ob_s ho5
          refine ep_calli0 (va_runV (As := [.int x4]) (rest := []) ⟨hx, hb, hml, hown, hts⟩ (metX4_isSo l G h a0 x4 eo8) (cwV 1 hts (lw_V q1582 q1584 qs81 q89 q1585) rfl rfl rfl hdX4_isSo ⟨Nat.le_of_ble_eq_true rfl, Nat.le_of_ble_eq_true rfl⟩) (ep_preV hK hZ hw rfl (ckX4_isSo eo8)) rfl rfl hl.1 rfl (lv_room (Nat.le_of_ble_eq_true rfl)) dX4_fits_36 ⟨Nat.le_of_ble_eq_true rfl, Nat.le_of_ble_eq_true rfl⟩) hw (fun H locs hw => ?_)
          obtain ⟨o9, ho9, ho5⟩ := ob_s ho5
          have hJ9 : ∀ (H : Heap) (locs : List Loc) (ls : Array Slot), ep_W G ep_cl o8.2 s H locs → lv_has ls 6 [(0, .ref a0), (1, .int x1), (2, .int o9.1), (3, .int o9.2), (4, .int x4)] → wX4_fits p l e s m below meth c G h a0 x1 res 0 0 H locs (F0 m 83 ls []) := by
            intro H locs ls hw hl
            refine lv_iinc (v := (x4 + iI 1)) (lv' := [(4, .int (x4 + iI 1)), (0, .ref a0), (1, .int x1), (2, .int o9.1), (3, .int o9.2)]) hx hb dX4_fits_83 hl (k := 4) rfl rfl (by decide) rfl (fun ls hl => ?_)
            refine lv_goto (tgt := 24) hx hb dX4_fits_86 (by decide) ?_
            exact ih5 _ _ _ _ ho5 _ _ _ hw (lv_sub hl [1, 2, 3, 4, 0] rfl)
          refine lv_if_eq (tgt := 83) hx hb dX4_fits_39 (by decide) (fun c10 => ?_) (fun c10 => ?_)
          · have ho9 := oi_t ho9 c10
            obtain rfl := Option.some.inj ho9
            exact hJ9 _ _ _ hw (lv_sub hl [0, 1, 2, 3, 4] rfl)
          · have ho9 := oi_f ho9 c10
            refine lv_iinc (v := (x2 + iI 1)) (lv' := [(2, .int (x2 + iI 1)), (0, .ref a0), (1, .int x1), (3, .int x3), (4, .int x4)]) hx hb dX4_fits_42 hl (k := 2) rfl rfl (by decide) rfl (fun ls hl => ?_)
            refine lv_iload_n hx hb dX4_fits_45 rfl (lv_at hl 2 rfl) ?_
            obtain ⟨o11, ho11, ho9⟩ := ob_s ho9
            have hJ11 : ∀ (H : Heap) (locs : List Loc) (ls : Array Slot), ep_W G ep_cl o8.2 s H locs → lv_has ls 6 [(0, .ref a0), (1, .int x1), (2, .int (x2 + iI 1)), (3, .int x3), (4, .int x4)] → wX4_fits p l e s m below meth c G h a0 x1 res 0 0 H locs (F0 m 63 ls [.int o11]) := by
              intro H locs ls hw hl
              refine lv_istore (lv' := [(5, .int o11), (0, .ref a0), (1, .int x1), (2, .int (x2 + iI 1)), (3, .int x3), (4, .int x4)]) hx hb dX4_fits_63 hl (by decide) rfl (fun ls hl => ?_)
              refine lv_iload_n hx hb dX4_fits_65 rfl (lv_at hl 4 rfl) ?_
              refine lv_iload hx hb dX4_fits_66 (lv_at hl 0 rfl) ?_
              refine lv_bipush (v := iI (-4)) hx hb dX4_fits_68 (by decide) ?_
              have hJ14 : wX4_fits p l e s m below meth c G h a0 x1 res 0 0 H locs (F0 m 81 ls [.int (if o11 = (iI (-4)) then iI 0 else ((iI 1) <<< (o11 &&& 31))), .int x3]) := by
                refine lv_ior hx hb dX4_fits_81 ?_
                refine lv_istore_n (lv' := [(3, .int (x3 ||| (if o11 = (iI (-4)) then iI 0 else ((iI 1) <<< (o11 &&& 31))))), (5, .int o11), (0, .ref a0), (1, .int x1), (2, .int (x2 + iI 1)), (4, .int x4)]) hx hb dX4_fits_82 rfl hl (by decide) rfl (fun ls hl => ?_)
                obtain rfl := Option.some.inj ho9
                exact hJ9 _ _ _ hw (lv_sub hl [2, 3, 4, 0, 5] rfl)
              refine lv_icmp_ne (tgt := 77) hx hb dX4_fits_70 (by decide) (fun c15 => ?_) (fun c15 => ?_)
              · refine lv_iconst (v := iI 1) hx hb dX4_fits_77 rfl ?_
                refine lv_iload hx hb dX4_fits_78 (lv_at hl 0 rfl) ?_
                refine lv_ishl hx hb dX4_fits_80 ?_
                rw [if_neg c15] at hJ14
                exact hJ14
              · refine lv_iconst (v := iI 0) hx hb dX4_fits_73 rfl ?_
                refine lv_goto (tgt := 81) hx hb dX4_fits_74 (by decide) ?_
                rw [if_pos c15] at hJ14
                exact hJ14
            refine lv_if_ne (tgt := 54) hx hb dX4_fits_46 (by decide) (fun c12 => ?_) (fun c12 => ?_)
            · have ho11 := oi_f ho11 c12
              refine lv_aload_n hx hb dX4_fits_54 rfl (lv_at hl 1 rfl) ?_
              refine lv_iload_n hx hb dX4_fits_55 rfl (lv_at hl 2 rfl) ?_
              refine lv_bipush (v := iI 10) hx hb dX4_fits_56 (by decide) ?_
              refine lv_isub hx hb dX4_fits_58 ?_
              refine lv_iconst (v := iI 2) hx hb dX4_fits_59 rfl ?_
              obtain ⟨v13, ev13, ho11⟩ := ob_s ho11
              refine ep_calli0 (va_runV (As := [.int (x1 - (iI 10)), .int (iI 2)]) (rest := []) ⟨hx, hb, hml, hown, hts⟩ (metX4_of l G o8.2 a0 (x1 - (iI 10)) (iI 2) ev13) (cwV 2 hts (lw_V q1327 q1329 qs50 q89 q1330) rfl rfl rfl hdX4_of ⟨Nat.le_of_ble_eq_true rfl, Nat.le_of_ble_eq_true rfl⟩) (ep_preV hK hZ hw rfl (ckX4_of ev13)) rfl rfl hl.1 rfl (lv_room (Nat.le_of_ble_eq_true rfl)) dX4_fits_60 ⟨Nat.le_of_ble_eq_true rfl, Nat.le_of_ble_eq_true rfl⟩) hw (fun H locs hw => ?_)
              obtain rfl := Option.some.inj ho11
              exact hJ11 _ _ _ hw (lv_sub hl [1, 2, 0, 3, 4] rfl)
            · have ho11 := oi_t ho11 c12
              refine lv_bipush (v := iI (-4)) hx hb dX4_fits_49 (by decide) ?_
              refine lv_goto (tgt := 63) hx hb dX4_fits_51 (by decide) ?_
              obtain rfl := Option.some.inj ho11
              exact hJ11 _ _ _ hw (lv_sub hl [1, 2, 0, 3, 4] rfl)
    exact hL5 FUEL _ _ _ _ ho5 _ _ _ hw (lv_sub hl [3, 4, 2, 1, 0] rfl)
  refine lv_if_eq (tgt := 17) hx hb dX4_fits_1 (by decide) (fun c2 => ?_) (fun c2 => ?_)
  · have ho1 := oi_t ho1 c2
    exact hJ1 _ (Option.some.inj ho1).symm _ _ _ hw (lv_sub hl [0, 1] rfl)
  · have ho1 := oi_f ho1 c2
    refine lv_aload_n hx hb dX4_fits_4 rfl (lv_at hl 0 rfl) ?_
    refine lv_iload_n hx hb dX4_fits_5 rfl (lv_at hl 1 rfl) ?_
    refine lv_bipush (v := iI 10) hx hb dX4_fits_6 (by decide) ?_
    refine lv_isub hx hb dX4_fits_8 ?_
    obtain ⟨v3, ev3, ho1⟩ := ob_s ho1
    refine ep_calli0 (va_runV (As := [.int (x1 - (iI 10))]) (rest := []) ⟨hx, hb, hml, hown, hts⟩ (metX4_isEcho l G h a0 (x1 - (iI 10)) ev3) (cwV 1 hts (lw_V q1352 q1354 qs54 q89 q1355) rfl rfl rfl hdX4_isEcho ⟨Nat.le_of_ble_eq_true rfl, Nat.le_of_ble_eq_true rfl⟩) (ep_preV hK hZ hw rfl (ckX4_isEcho ev3)) rfl rfl hl.1 rfl (lv_room (Nat.le_of_ble_eq_true rfl)) dX4_fits_9 ⟨Nat.le_of_ble_eq_true rfl, Nat.le_of_ble_eq_true rfl⟩) hw (fun H locs hw => ?_)
    refine lv_if_ne (tgt := 17) hx hb dX4_fits_12 (by decide) (fun c4 => ?_) (fun c4 => ?_)
    · have ho1 := oi_f ho1 c4
      exact hJ1 _ (Option.some.inj ho1).symm _ _ _ hw (lv_sub hl [0, 1] rfl)
    · have ho1 := oi_t ho1 c4
      refine lv_iconst (v := iI (-1)) hx hb dX4_fits_15 rfl ?_
      exact ep_retiW hx hb hr hlocks hw (hT1 _ (Option.some.inj ho1).symm) dX4_fits_16
theorem hdX4_listen : yX4_listen.cls = RX4 ∧ yX4_listen.cls ≠ "java/lang/invoke/MethodHandle" ∧ yX4_listen.cls ≠ "java/lang/invoke/VarHandle" ∧ (parseMethodDescriptor yX4_listen.desc).map (fun d => d.parameters.length) = some 2 := by decide +kernel
theorem ckX4_listen {h : Hp} {a0 : Nat} {x1 : Int32} {x2 : Int32} {res : Int32 × Hp} (hf : fX4_listen h a0 x1 x2 = some res) : ep_cls h a0 = some 4 := by
  unfold fX4_listen at hf
  exact (oi_c hf).1
abbrev wX4_listen (p : Program) (l : Launch) (e : Env) (s : State) (m : MethodId) (below : List Frame) (meth : Method) (c : Code) (G : EG) (h : Hp) (a0 : Nat) (x1 : Int32) (x2 : Int32) (res : Int32 × Hp) (k9 n9 : Nat) (H : Heap) (locs : List Loc) (g : JFrame) : Prop := W p l e (headSpec (ws_ yX4_listen cX4_listen 8 (some .int)) ({ frames := 7, cells := 0, slots := 0, locals := 159 } : Room)).room s m ([.ref a0, .int x1, .int x2] : List Value).toArray below meth c H locs k9 n9 (MQ below (ep_Qi G ep_cl res.2 res.1) ([.ref a0, .int x1, .int x2] : List Value).toArray s 0 0 (ep_A G)) g
set_option maxHeartbeats 4000000 in
theorem metX4_listen (l : Launch) (G : EG) (h : Hp) (a0 : Nat) (x1 : Int32) (x2 : Int32) {res : Int32 × Hp} (hf : fX4_listen h a0 x1 x2 = some res) : Met l yX4_listen (ws_ yX4_listen cX4_listen 8 (some .int)) ({ frames := 7, cells := 0, slots := 0, locals := 159 } : Room) (ep_Pc G ep_cl h [.ref a0, .int x1, .int x2]) (ep_Qi G ep_cl res.2 res.1) 0 0 (ep_A G) := by
  refine Met.ofW (cc := cX4_listen) (maxL := 8) (ret := (some .int)) (by decide) rfl ?_
  intro p e s m args below meth c s₁ B hml hv
  obtain ⟨rfl, hR, hK, hZ⟩ := hv
  have hx := B.exec
  have hb := B.bytes
  have hr := B.returns
  have hlocks := B.notSynchronized
  have hts := atoms_spec (ws := (ws_ yX4_listen cX4_listen 8 (some .int))) B.pre
  have hts : ∀ w ∈ lw_all, w.before _ s = true := fun w h => hts w (List.mem_cons_of_mem _ h)
  have hown : s.vm.findClass RX4 = some m.cls := findClass_of_methodNamed B.named
  have hw : ep_W G ep_cl h s s.heap [] := ⟨hR, va_S.rf⟩
  have hl := lv_entry ([.ref a0, .int x1, .int x2]) (n := 8) (Nat.le_of_ble_eq_true rfl)
  rw [lg_entry_eq]
  generalize (lg_sl ([.ref a0, .int x1, .int x2]) ++ List.replicate (8 - (lg_sl ([.ref a0, .int x1, .int x2])).length) Slot.unset).toArray = ls at hl ⊢
  have hl : lv_has ls 8 [(0, .ref a0), (1, .int x1), (2, .int x2)] := hl
  unfold fX4_listen at hf
  have hf := (oi_c hf).2
  show wX4_listen p l e s m below meth c G h a0 x1 x2 res 0 0 s.heap ([]) (F0 m 0 ls [])
  refine lv_aload_n hx hb dX4_listen_0 rfl (lv_at hl 0 rfl) ?_
  refine lv_iload_n hx hb dX4_listen_1 rfl (lv_at hl 1 rfl) ?_
  obtain ⟨v1, ev1, hf⟩ := ob_s hf
  refine ep_calli0 (va_runV (As := [.int x1]) (rest := []) ⟨hx, hb, hml, hown, hts⟩ (metX4_isPen l G h a0 x1 ev1) (cwV 1 hts (lw_V q1343 q1345 qs53 q89 q1346) rfl rfl rfl hdX4_isPen ⟨Nat.le_of_ble_eq_true rfl, Nat.le_of_ble_eq_true rfl⟩) (ep_preV hK hZ hw rfl (ckX4_isPen ev1)) rfl rfl hl.1 rfl (lv_room (Nat.le_of_ble_eq_true rfl)) dX4_listen_2 ⟨Nat.le_of_ble_eq_true rfl, Nat.le_of_ble_eq_true rfl⟩) hw (fun H locs hw => ?_)
  refine lv_if_eq (tgt := 15) hx hb dX4_listen_5 (by decide) (fun c2 => ?_) (fun c2 => ?_)
  · have hf := oi_t hf c2
    refine lv_iconst (v := iI (-1)) hx hb dX4_listen_15 rfl ?_
    exact ep_retiW hx hb hr hlocks hw hf dX4_listen_16
  · have hf := oi_f hf c2
    refine lv_iload_n hx hb dX4_listen_8 rfl (lv_at hl 2 rfl) ?_
    obtain ⟨v3, ev3, hf⟩ := ob_s hf
    refine ep_calli0 (va_runS (As := [.int x2]) (rest := []) ⟨hx, hb, hml, hown, hts⟩ (metX4_isPart l G h x2 ev3) (va_cwS 1 hts (lw_S q1399 q1400 q89 q1401) rfl rfl rfl hsX4_isPart ⟨Nat.le_of_ble_eq_true rfl, Nat.le_of_ble_eq_true rfl⟩) (ep_preS hK hZ hw) rfl rfl hl.1 rfl (lv_room (Nat.le_of_ble_eq_true rfl)) dX4_listen_9 ⟨Nat.le_of_ble_eq_true rfl, Nat.le_of_ble_eq_true rfl⟩) hw (fun H locs hw => ?_)
    refine lv_if_ne (tgt := 17) hx hb dX4_listen_12 (by decide) (fun c4 => ?_) (fun c4 => ?_)
    · have hf := oi_f hf c4
      refine lv_iconst (v := iI 0) hx hb dX4_listen_17 rfl ?_
      refine lv_istore_n (lv' := [(3, .int (iI 0)), (0, .ref a0), (1, .int x1), (2, .int x2)]) hx hb dX4_listen_18 rfl hl (by decide) rfl (fun ls hl => ?_)
      refine lv_bipush (v := iI (-4)) hx hb dX4_listen_19 (by decide) ?_
      refine lv_istore (lv' := [(4, .int (iI (-4))), (3, .int (iI 0)), (0, .ref a0), (1, .int x1), (2, .int x2)]) hx hb dX4_listen_21 hl (by decide) rfl (fun ls hl => ?_)
      refine lv_iconst (v := iI 0) hx hb dX4_listen_23 rfl ?_
      refine lv_istore (lv' := [(5, .int (iI 0)), (4, .int (iI (-4))), (3, .int (iI 0)), (0, .ref a0), (1, .int x1), (2, .int x2)]) hx hb dX4_listen_24 hl (by decide) rfl (fun ls hl => ?_)
      obtain ⟨o5, ho5, hf⟩ := ob_s hf
      have hJ5 : ∀ (H : Heap) (locs : List Loc) (ls : Array Slot), ep_W G ep_cl o5 s H locs → lv_has ls 8 [(0, .ref a0), (1, .int x1), (2, .int x2), (3, .int (iI 0)), (4, .int (iI (-4)))] → wX4_listen p l e s m below meth c G h a0 x1 x2 res 0 0 H locs (F0 m 48 ls []) := by
        intro H locs ls hw hl
        refine lv_iconst (v := iI 0) hx hb dX4_listen_48 rfl ?_
        refine lv_istore (lv' := [(5, .int (iI 0)), (0, .ref a0), (1, .int x1), (2, .int x2), (3, .int (iI 0)), (4, .int (iI (-4)))]) hx hb dX4_listen_49 hl (by decide) rfl (fun ls hl => ?_)
        obtain ⟨o9, ho9, hf⟩ := ob_s hf
        have hJ9 : ∀ (H : Heap) (locs : List Loc) (ls : Array Slot), ep_W G ep_cl o9.1 s H locs → lv_has ls 8 [(0, .ref a0), (2, .int x2), (3, .int o9.2), (4, .int (iI (-4)))] → wX4_listen p l e s m below meth c G h a0 x1 x2 res 0 0 H locs (F0 m 119 ls []) := by
          intro H locs ls hw hl
          refine lv_iconst (v := iI 0) hx hb dX4_listen_119 rfl ?_
          refine lv_istore (lv' := [(5, .int (iI 0)), (0, .ref a0), (2, .int x2), (3, .int o9.2), (4, .int (iI (-4)))]) hx hb dX4_listen_120 hl (by decide) rfl (fun ls hl => ?_)
          obtain ⟨o22, ho22, hf⟩ := ob_s hf
          have hJ22 : ∀ (H : Heap) (locs : List Loc) (ls : Array Slot), ep_W G ep_cl o9.1 s H locs → lv_has ls 8 [(2, .int x2), (3, .int o22.1), (4, .int o22.2)] → wX4_listen p l e s m below meth c G h a0 x1 x2 res 0 0 H locs (F0 m 219 ls []) := by
            intro H locs ls hw hl
            refine lv_iload hx hb dX4_listen_219 (lv_at hl 2 rfl) ?_
            refine lv_bipush (v := iI (-4)) hx hb dX4_listen_221 (by decide) ?_
            refine lv_icmp_ne (tgt := 231) hx hb dX4_listen_223 (by decide) (fun c36 => ?_) (fun c36 => ?_)
            · have hf := oi_f hf c36
              refine lv_iload_n hx hb dX4_listen_231 rfl (lv_at hl 0 rfl) ?_
              refine lv_if_ne (tgt := 240) hx hb dX4_listen_232 (by decide) (fun c37 => ?_) (fun c37 => ?_)
              · have hf := oi_f hf c37
                refine lv_iload_n hx hb dX4_listen_240 rfl (lv_at hl 1 rfl) ?_
                exact ep_retiW hx hb hr hlocks hw hf dX4_listen_241
              · have hf := oi_t hf c37
                refine lv_iload hx hb dX4_listen_235 (lv_at hl 2 rfl) ?_
                refine lv_goto (tgt := 241) hx hb dX4_listen_237 (by decide) ?_
                exact ep_retiW hx hb hr hlocks hw hf dX4_listen_241
            · have hf := oi_t hf c36
              refine lv_bipush (v := iI (-4)) hx hb dX4_listen_226 (by decide) ?_
              refine lv_goto (tgt := 241) hx hb dX4_listen_228 (by decide) ?_
              exact ep_retiW hx hb hr hlocks hw hf dX4_listen_241
          have hL22 : ∀ (fu : Nat) (x3 : Int32) (x4 : Int32) (x5 : Int32), fX4_listen_L122 o9.1 a0 x2 fu x3 x4 x5 = some o22 → ∀ (H : Heap) (locs : List Loc) (ls : Array Slot), ep_W G ep_cl o9.1 s H locs → lv_has ls 8 [(0, .ref a0), (2, .int x2), (3, .int x3), (4, .int x4), (5, .int x5)] → wX4_listen p l e s m below meth c G h a0 x1 x2 res 0 0 H locs (F0 m 122 ls []) := by
            intro fu
            induction fu with
            | zero => intro x3 x4 x5 ho22; cases ho22
            | succ fu ih22 =>
              intro x3 x4 x5 ho22 H locs ls hw hl
              rw [fX4_listen_L122] at ho22
              refine lv_iload hx hb dX4_listen_122 (lv_at hl 4 rfl) ?_
              refine lv_bipush (v := iI 30) hx hb dX4_listen_124 (by decide) ?_
              refine lv_icmp_gt (tgt := 219) hx hb dX4_listen_126 (by decide) (fun c23 => ?_) (fun c23 => ?_)
              · have ho22 := oi_t ho22 c23
                obtain rfl := Option.some.inj ho22
                exact hJ22 _ _ _ hw (lv_sub hl [1, 2, 3] rfl)
              · have ho22 := oi_f ho22 c23
                refine lv_iconst (v := iI 0) hx hb dX4_listen_129 rfl ?_
                refine lv_istore (lv' := [(6, .int (iI 0)), (0, .ref a0), (2, .int x2), (3, .int x3), (4, .int x4), (5, .int x5)]) hx hb dX4_listen_130 hl (by decide) rfl (fun ls hl => ?_)
                refine lv_iconst (v := iI 0) hx hb dX4_listen_132 rfl ?_
                refine lv_istore (lv' := [(7, .int (iI 0)), (6, .int (iI 0)), (0, .ref a0), (2, .int x2), (3, .int x3), (4, .int x4), (5, .int x5)]) hx hb dX4_listen_133 hl (by decide) rfl (fun ls hl => ?_)
                obtain ⟨o24, ho24, ho22⟩ := ob_s ho22
                have hJ24 : ∀ (H : Heap) (locs : List Loc) (ls : Array Slot), ep_W G ep_cl o9.1 s H locs → lv_has ls 8 [(0, .ref a0), (2, .int x2), (3, .int x3), (4, .int x4), (5, .int x5), (6, .int o24)] → wX4_listen p l e s m below meth c G h a0 x1 x2 res 0 0 H locs (F0 m 185 ls []) := by
                  intro H locs ls hw hl
                  refine lv_iload hx hb dX4_listen_185 (lv_at hl 5 rfl) ?_
                  refine lv_iload_n hx hb dX4_listen_187 rfl (lv_at hl 2 rfl) ?_
                  have hJ32 : wX4_listen p l e s m below meth c G h a0 x1 x2 res 0 0 H locs (F0 m 198 ls [.int (if x3 ≤ o24 then x4 else x5)]) := by
                    refine lv_istore (lv' := [(4, .int (if x3 ≤ o24 then x4 else x5)), (0, .ref a0), (2, .int x2), (3, .int x3), (5, .int x5), (6, .int o24)]) hx hb dX4_listen_198 hl (by decide) rfl (fun ls hl => ?_)
                    refine lv_iload hx hb dX4_listen_200 (lv_at hl 5 rfl) ?_
                    refine lv_iload_n hx hb dX4_listen_202 rfl (lv_at hl 3 rfl) ?_
                    have hJ34 : wX4_listen p l e s m below meth c G h a0 x1 x2 res 0 0 H locs (F0 m 212 ls [.int (if x3 ≤ o24 then x3 else o24)]) := by
                      refine lv_istore_n (lv' := [(3, .int (if x3 ≤ o24 then x3 else o24)), (4, .int (if x3 ≤ o24 then x4 else x5)), (0, .ref a0), (2, .int x2), (5, .int x5), (6, .int o24)]) hx hb dX4_listen_212 rfl hl (by decide) rfl (fun ls hl => ?_)
                      refine lv_iinc (v := (x5 + iI 1)) (lv' := [(5, .int (x5 + iI 1)), (3, .int (if x3 ≤ o24 then x3 else o24)), (4, .int (if x3 ≤ o24 then x4 else x5)), (0, .ref a0), (2, .int x2), (6, .int o24)]) hx hb dX4_listen_213 hl (k := 4) rfl rfl (by decide) rfl (fun ls hl => ?_)
                      refine lv_goto (tgt := 122) hx hb dX4_listen_216 (by decide) ?_
                      exact ih22 _ _ _ ho22 _ _ _ hw (lv_sub hl [3, 4, 1, 2, 0] rfl)
                    refine lv_icmp_ge (tgt := 211) hx hb dX4_listen_203 (by decide) (fun c35 => ?_) (fun c35 => ?_)
                    · refine lv_iload_n hx hb dX4_listen_211 rfl (lv_at hl 3 rfl) ?_
                      rw [if_pos c35] at hJ34
                      exact hJ34
                    · refine lv_iload hx hb dX4_listen_206 (lv_at hl 5 rfl) ?_
                      refine lv_goto (tgt := 212) hx hb dX4_listen_208 (by decide) ?_
                      rw [if_neg c35] at hJ34
                      exact hJ34
                  refine lv_icmp_ge (tgt := 196) hx hb dX4_listen_188 (by decide) (fun c33 => ?_) (fun c33 => ?_)
                  · refine lv_iload hx hb dX4_listen_196 (lv_at hl 3 rfl) ?_
                    rw [if_pos c33] at hJ32
                    exact hJ32
                  · refine lv_iload hx hb dX4_listen_191 (lv_at hl 4 rfl) ?_
                    refine lv_goto (tgt := 198) hx hb dX4_listen_193 (by decide) ?_
                    rw [if_neg c33] at hJ32
                    exact hJ32
                have hL24 : ∀ (fu : Nat) (x6 : Int32) (x7 : Int32), fX4_listen_L135 o9.1 a0 x2 x3 x4 x5 fu x6 x7 = some o24 → ∀ (H : Heap) (locs : List Loc) (ls : Array Slot), ep_W G ep_cl o9.1 s H locs → lv_has ls 8 [(0, .ref a0), (2, .int x2), (3, .int x3), (4, .int x4), (5, .int x5), (6, .int x6), (7, .int x7)] → wX4_listen p l e s m below meth c G h a0 x1 x2 res 0 0 H locs (F0 m 135 ls []) := by
                  intro fu
                  induction fu with
                  | zero => intro x6 x7 ho24; cases ho24
                  | succ fu ih24 =>
                    intro x6 x7 ho24 H locs ls hw hl
                    rw [fX4_listen_L135] at ho24
                    refine lv_iload hx hb dX4_listen_135 (lv_at hl 6 rfl) ?_
                    refine lv_iconst (v := iI 5) hx hb dX4_listen_137 rfl ?_
                    refine lv_icmp_gt (tgt := 185) hx hb dX4_listen_138 (by decide) (fun c25 => ?_) (fun c25 => ?_)
                    · have ho24 := oi_t ho24 c25
                      obtain rfl := Option.some.inj ho24
                      exact hJ24 _ _ _ hw (lv_sub hl [0, 1, 2, 3, 4, 5] rfl)
                    · have ho24 := oi_f ho24 c25
                      refine lv_aload_n hx hb dX4_listen_141 rfl (lv_at hl 0 rfl) ?_
                      obtain ⟨r26, er26, ho24⟩ := ob_s ho24
                      refine ep_get (C := RX4) (T := TX4) (N := 32) (ci := 4) hx hb hts in_X4 hown hK hw rfl 26 (by decide) q1165 (gR_f er26) dX4_listen_142 ?_
                      refine lv_bipush (v := iI 6) hx hb dX4_listen_145 (by decide) ?_
                      refine lv_iload hx hb dX4_listen_147 (lv_at hl 4 rfl) ?_
                      refine lv_imul hx hb dX4_listen_149 ?_
                      refine lv_iload hx hb dX4_listen_150 (lv_at hl 6 rfl) ?_
                      refine lv_iadd hx hb dX4_listen_152 ?_
                      obtain ⟨v27, ev27, ho24⟩ := ob_s ho24
                      refine ep_iald hx hb hK hw ev27 dX4_listen_153 ?_
                      refine lv_iload hx hb dX4_listen_154 (lv_at hl 5 rfl) ?_
                      obtain ⟨o28, ho28, ho24⟩ := ob_s ho24
                      have hJ28 : ∀ (H : Heap) (locs : List Loc) (ls : Array Slot), ep_W G ep_cl o9.1 s H locs → lv_has ls 8 [(0, .ref a0), (2, .int x2), (3, .int x3), (4, .int x4), (5, .int x5), (7, .int x7)] → wX4_listen p l e s m below meth c G h a0 x1 x2 res 0 0 H locs (F0 m 177 ls [.int o28]) := by
                        intro H locs ls hw hl
                        refine lv_istore (lv' := [(6, .int o28), (0, .ref a0), (2, .int x2), (3, .int x3), (4, .int x4), (5, .int x5), (7, .int x7)]) hx hb dX4_listen_177 hl (by decide) rfl (fun ls hl => ?_)
                        refine lv_iinc (v := (x7 + iI 1)) (lv' := [(7, .int (x7 + iI 1)), (6, .int o28), (0, .ref a0), (2, .int x2), (3, .int x3), (4, .int x4), (5, .int x5)]) hx hb dX4_listen_179 hl (k := 6) rfl rfl (by decide) rfl (fun ls hl => ?_)
                        refine lv_goto (tgt := 135) hx hb dX4_listen_182 (by decide) ?_
                        exact ih24 _ _ ho24 _ _ _ hw (lv_sub hl [2, 3, 4, 5, 6, 1, 0] rfl)
                      refine lv_icmp_le (tgt := 175) hx hb dX4_listen_156 (by decide) (fun c29 => ?_) (fun c29 => ?_)
                      · have ho28 := oi_t ho28 c29
                        refine lv_iload hx hb dX4_listen_175 (lv_at hl 5 rfl) ?_
                        obtain rfl := Option.some.inj ho28
                        exact hJ28 _ _ _ hw (lv_sub hl [0, 1, 2, 3, 4, 6] rfl)
                      · have ho28 := oi_f ho28 c29
                        refine lv_aload_n hx hb dX4_listen_159 rfl (lv_at hl 0 rfl) ?_
                        obtain ⟨r30, er30, ho28⟩ := ob_s ho28
                        refine ep_get (C := RX4) (T := TX4) (N := 32) (ci := 4) hx hb hts in_X4 hown hK hw rfl 26 (by decide) q1165 (gR_f er30) dX4_listen_160 ?_
                        refine lv_bipush (v := iI 6) hx hb dX4_listen_163 (by decide) ?_
                        refine lv_iload hx hb dX4_listen_165 (lv_at hl 4 rfl) ?_
                        refine lv_imul hx hb dX4_listen_167 ?_
                        refine lv_iload hx hb dX4_listen_168 (lv_at hl 6 rfl) ?_
                        refine lv_iadd hx hb dX4_listen_170 ?_
                        obtain ⟨v31, ev31, ho28⟩ := ob_s ho28
                        refine ep_iald hx hb hK hw ev31 dX4_listen_171 ?_
                        refine lv_goto (tgt := 177) hx hb dX4_listen_172 (by decide) ?_
                        obtain rfl := Option.some.inj ho28
                        exact hJ28 _ _ _ hw (lv_sub hl [0, 1, 2, 3, 4, 6] rfl)
                exact hL24 FUEL _ _ ho24 _ _ _ hw (lv_sub hl [2, 3, 4, 5, 6, 1, 0] rfl)
          exact hL22 FUEL _ _ _ ho22 _ _ _ hw (lv_sub hl [1, 2, 3, 4, 0] rfl)
        have hL9 : ∀ (fu : Nat) (h : Hp) (x3 : Int32) (x5 : Int32), fX4_listen_L51 a0 x1 x2 (iI (-4)) fu h x3 x5 = some o9 → ∀ (H : Heap) (locs : List Loc) (ls : Array Slot), ep_W G ep_cl h s H locs → lv_has ls 8 [(0, .ref a0), (1, .int x1), (2, .int x2), (3, .int x3), (4, .int (iI (-4))), (5, .int x5)] → wX4_listen p l e s m below meth c G h a0 x1 x2 res 0 0 H locs (F0 m 51 ls []) := by
          intro fu
          induction fu with
          | zero => intro h x3 x5 ho9; cases ho9
          | succ fu ih9 =>
            intro h x3 x5 ho9 H locs ls hw hl
            rw [fX4_listen_L51] at ho9
            refine lv_iload hx hb dX4_listen_51 (lv_at hl 5 rfl) ?_
            refine lv_aload_n hx hb dX4_listen_53 rfl (lv_at hl 0 rfl) ?_
            obtain ⟨v10, ev10, ho9⟩ := ob_s ho9
            refine ep_calli0 (va_runV (As := []) (rest := [.int x5]) ⟨hx, hb, hml, hown, hts⟩ (metX4_droves l G h a0 ev10) (cwV 0 hts (lw_V q1535 q1537 qs78 q89 q1538) rfl rfl rfl hdX4_droves ⟨Nat.le_of_ble_eq_true rfl, Nat.le_of_ble_eq_true rfl⟩) (ep_preV hK hZ hw rfl (ckX4_droves ev10)) rfl rfl hl.1 rfl (lv_room (Nat.le_of_ble_eq_true rfl)) dX4_listen_54 ⟨Nat.le_of_ble_eq_true rfl, Nat.le_of_ble_eq_true rfl⟩) hw (fun H locs hw => ?_)
            refine lv_icmp_ge (tgt := 119) hx hb dX4_listen_57 (by decide) (fun c11 => ?_) (fun c11 => ?_)
            · have ho9 := oi_t ho9 c11
              obtain rfl := Option.some.inj ho9
              exact hJ9 _ _ _ hw (lv_sub hl [0, 2, 3, 4] rfl)
            · have ho9 := oi_f ho9 c11
              refine lv_aload_n hx hb dX4_listen_60 rfl (lv_at hl 0 rfl) ?_
              refine lv_iload hx hb dX4_listen_61 (lv_at hl 5 rfl) ?_
              obtain ⟨o12, eo12, ho9⟩ := ob_s ho9
              refine ep_calli0 (va_runV (As := [.int x5]) (rest := []) ⟨hx, hb, hml, hown, hts⟩ (metX4_isSo l G h a0 x5 eo12) (cwV 1 hts (lw_V q1582 q1584 qs81 q89 q1585) rfl rfl rfl hdX4_isSo ⟨Nat.le_of_ble_eq_true rfl, Nat.le_of_ble_eq_true rfl⟩) (ep_preV hK hZ hw rfl (ckX4_isSo eo12)) rfl rfl hl.1 rfl (lv_room (Nat.le_of_ble_eq_true rfl)) dX4_listen_63 ⟨Nat.le_of_ble_eq_true rfl, Nat.le_of_ble_eq_true rfl⟩) hw (fun H locs hw => ?_)
              obtain ⟨o13, ho13, ho9⟩ := ob_s ho9
              have hJ13 : ∀ (H : Heap) (locs : List Loc) (ls : Array Slot), ep_W G ep_cl o13.1 s H locs → lv_has ls 8 [(0, .ref a0), (1, .int x1), (2, .int x2), (3, .int o13.2), (4, .int (iI (-4))), (5, .int x5)] → wX4_listen p l e s m below meth c G h a0 x1 x2 res 0 0 H locs (F0 m 113 ls []) := by
                intro H locs ls hw hl
                refine lv_iinc (v := (x5 + iI 1)) (lv' := [(5, .int (x5 + iI 1)), (0, .ref a0), (1, .int x1), (2, .int x2), (3, .int o13.2), (4, .int (iI (-4)))]) hx hb dX4_listen_113 hl (k := 5) rfl rfl (by decide) rfl (fun ls hl => ?_)
                refine lv_goto (tgt := 51) hx hb dX4_listen_116 (by decide) ?_
                exact ih9 _ _ _ ho9 _ _ _ hw (lv_sub hl [1, 2, 3, 4, 5, 0] rfl)
              refine lv_if_eq (tgt := 113) hx hb dX4_listen_66 (by decide) (fun c14 => ?_) (fun c14 => ?_)
              · have ho13 := oi_t ho13 c14
                obtain rfl := Option.some.inj ho13
                exact hJ13 _ _ _ hw (lv_sub hl [0, 1, 2, 3, 4, 5] rfl)
              · have ho13 := oi_f ho13 c14
                refine lv_iinc (v := (x3 + iI 1)) (lv' := [(3, .int (x3 + iI 1)), (0, .ref a0), (1, .int x1), (2, .int x2), (4, .int (iI (-4))), (5, .int x5)]) hx hb dX4_listen_69 hl (k := 3) rfl rfl (by decide) rfl (fun ls hl => ?_)
                refine lv_iconst (v := iI 0) hx hb dX4_listen_72 rfl ?_
                refine lv_istore (lv' := [(6, .int (iI 0)), (3, .int (x3 + iI 1)), (0, .ref a0), (1, .int x1), (2, .int x2), (4, .int (iI (-4))), (5, .int x5)]) hx hb dX4_listen_73 hl (by decide) rfl (fun ls hl => ?_)
                obtain ⟨o15, ho15, ho13⟩ := ob_s ho13
                have hJ15 : ∀ (H : Heap) (locs : List Loc) (ls : Array Slot), ep_W G ep_cl o15 s H locs → lv_has ls 8 [(0, .ref a0), (1, .int x1), (2, .int x2), (3, .int (x3 + iI 1)), (4, .int (iI (-4))), (5, .int x5)] → wX4_listen p l e s m below meth c G h a0 x1 x2 res 0 0 H locs (F0 m 113 ls []) := by
                  intro H locs ls hw hl
                  obtain rfl := Option.some.inj ho13
                  exact hJ13 _ _ _ hw (lv_sub hl [0, 1, 2, 3, 4, 5] rfl)
                have hL15 : ∀ (fu : Nat) (h : Hp) (x6 : Int32), fX4_listen_L75 a0 x1 x2 (x3 + iI 1) (iI (-4)) x5 fu h x6 = some o15 → ∀ (H : Heap) (locs : List Loc) (ls : Array Slot), ep_W G ep_cl h s H locs → lv_has ls 8 [(0, .ref a0), (1, .int x1), (2, .int x2), (3, .int (x3 + iI 1)), (4, .int (iI (-4))), (5, .int x5), (6, .int x6)] → wX4_listen p l e s m below meth c G h a0 x1 x2 res 0 0 H locs (F0 m 75 ls []) := by
                  intro fu
                  induction fu with
                  | zero => intro h x6 ho15; cases ho15
                  | succ fu ih15 =>
                    intro h x6 ho15 H locs ls hw hl
                    rw [fX4_listen_L75] at ho15
                    refine lv_iload hx hb dX4_listen_75 (lv_at hl 6 rfl) ?_
                    refine lv_bipush (v := iI 30) hx hb dX4_listen_77 (by decide) ?_
                    refine lv_icmp_gt (tgt := 113) hx hb dX4_listen_79 (by decide) (fun c16 => ?_) (fun c16 => ?_)
                    · have ho15 := oi_t ho15 c16
                      obtain rfl := Option.some.inj ho15
                      exact hJ15 _ _ _ hw (lv_sub hl [0, 1, 2, 3, 4, 5] rfl)
                    · have ho15 := oi_f ho15 c16
                      refine lv_aload_n hx hb dX4_listen_82 rfl (lv_at hl 0 rfl) ?_
                      obtain ⟨r17, er17, ho15⟩ := ob_s ho15
                      refine ep_get (C := RX4) (T := TX4) (N := 32) (ci := 4) hx hb hts in_X4 hown hK hw rfl 26 (by decide) q1165 (gR_f er17) dX4_listen_83 ?_
                      refine lv_bipush (v := iI 6) hx hb dX4_listen_86 (by decide) ?_
                      refine lv_iload hx hb dX4_listen_88 (lv_at hl 6 rfl) ?_
                      refine lv_imul hx hb dX4_listen_90 ?_
                      refine lv_aload_n hx hb dX4_listen_91 rfl (lv_at hl 0 rfl) ?_
                      refine lv_iload_n hx hb dX4_listen_92 rfl (lv_at hl 1 rfl) ?_
                      refine lv_iload hx hb dX4_listen_93 (lv_at hl 6 rfl) ?_
                      obtain ⟨v18, ev18, ho15⟩ := ob_s ho15
                      refine ep_calli0 (va_runV (As := [.int x1, .int x6]) (rest := [.int ((iI 6) * x6), .ref r17]) ⟨hx, hb, hml, hown, hts⟩ (metX4_heardIn l G h a0 x1 x6 ev18) (cwV 2 hts (lw_V q1479 q1481 qs71 q89 q1482) rfl rfl rfl hdX4_heardIn ⟨Nat.le_of_ble_eq_true rfl, Nat.le_of_ble_eq_true rfl⟩) (ep_preV hK hZ hw rfl (ckX4_heardIn ev18)) rfl rfl hl.1 rfl (lv_room (Nat.le_of_ble_eq_true rfl)) dX4_listen_95 ⟨Nat.le_of_ble_eq_true rfl, Nat.le_of_ble_eq_true rfl⟩) hw (fun H locs hw => ?_)
                      obtain ⟨v19, ev19, ho15⟩ := ob_s ho15
                      refine ep_calli0 (va_runS (As := [.int v18]) (rest := [.int ((iI 6) * x6), .ref r17]) ⟨hx, hb, hml, hown, hts⟩ (metX4_bitsOf l G h v18 ev19) (va_cwS 1 hts (lw_S q1388 q1389 q89 q1390) rfl rfl rfl hsX4_bitsOf ⟨Nat.le_of_ble_eq_true rfl, Nat.le_of_ble_eq_true rfl⟩) (ep_preS hK hZ hw) rfl rfl hl.1 rfl (lv_room (Nat.le_of_ble_eq_true rfl)) dX4_listen_98 ⟨Nat.le_of_ble_eq_true rfl, Nat.le_of_ble_eq_true rfl⟩) hw (fun H locs hw => ?_)
                      refine lv_iadd hx hb dX4_listen_101 ?_
                      refine lv_dup2_11 hx hb dX4_listen_102 rfl rfl ?_
                      obtain ⟨v20, ev20, ho15⟩ := ob_s ho15
                      refine ep_iald hx hb hK hw ev20 dX4_listen_103 ?_
                      refine lv_iconst (v := iI 1) hx hb dX4_listen_104 rfl ?_
                      refine lv_iadd hx hb dX4_listen_105 ?_
                      obtain ⟨h21, eh21, ho15⟩ := ob_s ho15
                      refine ep_iast hx hb hK hw eh21 dX4_listen_106 (fun H locs hw => ?_)
                      refine lv_iinc (v := (x6 + iI 1)) (lv' := [(6, .int (x6 + iI 1)), (0, .ref a0), (1, .int x1), (2, .int x2), (3, .int (x3 + iI 1)), (4, .int (iI (-4))), (5, .int x5)]) hx hb dX4_listen_107 hl (k := 6) rfl rfl (by decide) rfl (fun ls hl => ?_)
                      refine lv_goto (tgt := 75) hx hb dX4_listen_110 (by decide) ?_
                      exact ih15 _ _ ho15 _ _ _ hw (lv_sub hl [1, 2, 3, 4, 5, 6, 0] rfl)
                exact hL15 FUEL _ _ ho15 _ _ _ hw (lv_sub hl [2, 3, 4, 1, 5, 6, 0] rfl)
        exact hL9 FUEL _ _ _ ho9 _ _ _ hw (lv_sub hl [1, 2, 3, 4, 5, 0] rfl)
      have hL5 : ∀ (fu : Nat) (h : Hp) (x5 : Int32), fX4_listen_L26 a0 x1 x2 (iI 0) (iI (-4)) fu h x5 = some o5 → ∀ (H : Heap) (locs : List Loc) (ls : Array Slot), ep_W G ep_cl h s H locs → lv_has ls 8 [(0, .ref a0), (1, .int x1), (2, .int x2), (3, .int (iI 0)), (4, .int (iI (-4))), (5, .int x5)] → wX4_listen p l e s m below meth c G h a0 x1 x2 res 0 0 H locs (F0 m 26 ls []) := by
        intro fu
        induction fu with
        | zero => intro h x5 ho5; cases ho5
        | succ fu ih5 =>
          intro h x5 ho5 H locs ls hw hl
          rw [fX4_listen_L26] at ho5
          refine lv_iload hx hb dX4_listen_26 (lv_at hl 5 rfl) ?_
          refine lv_sipush (v := iI 186) hx hb dX4_listen_28 (by decide) ?_
          refine lv_icmp_ge (tgt := 48) hx hb dX4_listen_31 (by decide) (fun c6 => ?_) (fun c6 => ?_)
          · have ho5 := oi_t ho5 c6
            obtain rfl := Option.some.inj ho5
            exact hJ5 _ _ _ hw (lv_sub hl [0, 1, 2, 3, 4] rfl)
          · have ho5 := oi_f ho5 c6
            refine lv_aload_n hx hb dX4_listen_34 rfl (lv_at hl 0 rfl) ?_
            obtain ⟨r7, er7, ho5⟩ := ob_s ho5
            refine ep_get (C := RX4) (T := TX4) (N := 32) (ci := 4) hx hb hts in_X4 hown hK hw rfl 26 (by decide) q1165 (gR_f er7) dX4_listen_35 ?_
            refine lv_iload hx hb dX4_listen_38 (lv_at hl 5 rfl) ?_
            refine lv_iconst (v := iI 0) hx hb dX4_listen_40 rfl ?_
            obtain ⟨h8, eh8, ho5⟩ := ob_s ho5
            refine ep_iast hx hb hK hw eh8 dX4_listen_41 (fun H locs hw => ?_)
            refine lv_iinc (v := (x5 + iI 1)) (lv' := [(5, .int (x5 + iI 1)), (0, .ref a0), (1, .int x1), (2, .int x2), (3, .int (iI 0)), (4, .int (iI (-4)))]) hx hb dX4_listen_42 hl (k := 5) rfl rfl (by decide) rfl (fun ls hl => ?_)
            refine lv_goto (tgt := 26) hx hb dX4_listen_45 (by decide) ?_
            exact ih5 _ _ ho5 _ _ _ hw (lv_sub hl [1, 2, 3, 4, 5, 0] rfl)
      exact hL5 FUEL _ _ ho5 _ _ _ hw (lv_sub hl [3, 4, 5, 2, 1, 0] rfl)
    · have hf := oi_t hf c4
      refine lv_iconst (v := iI (-1)) hx hb dX4_listen_15 rfl ?_
      exact ep_retiW hx hb hr hlocks hw hf dX4_listen_16
theorem hdX4_allOf : yX4_allOf.cls = RX4 ∧ yX4_allOf.cls ≠ "java/lang/invoke/MethodHandle" ∧ yX4_allOf.cls ≠ "java/lang/invoke/VarHandle" ∧ (parseMethodDescriptor yX4_allOf.desc).map (fun d => d.parameters.length) = some 1 := by decide +kernel
theorem ckX4_allOf {h : Hp} {a0 : Nat} {x1 : Int32} {res : Int32} (hf : fX4_allOf h a0 x1 = some res) : ep_cls h a0 = some 4 := by
  unfold fX4_allOf at hf
  exact (oi_c hf).1
abbrev wX4_allOf (p : Program) (l : Launch) (e : Env) (s : State) (m : MethodId) (below : List Frame) (meth : Method) (c : Code) (G : EG) (h : Hp) (a0 : Nat) (x1 : Int32) (res : Int32) (k9 n9 : Nat) (H : Heap) (locs : List Loc) (g : JFrame) : Prop := W p l e (headSpec (ws_ yX4_allOf cX4_allOf 4 (some .int)) ({ frames := 2, cells := 0, slots := 0, locals := 43 } : Room)).room s m ([.ref a0, .int x1] : List Value).toArray below meth c H locs k9 n9 (MQ below (ep_Qi G ep_cl h res) ([.ref a0, .int x1] : List Value).toArray s 0 0 (ep_A G)) g
set_option maxHeartbeats 4000000 in
theorem metX4_allOf (l : Launch) (G : EG) (h : Hp) (a0 : Nat) (x1 : Int32) {res : Int32} (hf : fX4_allOf h a0 x1 = some res) : Met l yX4_allOf (ws_ yX4_allOf cX4_allOf 4 (some .int)) ({ frames := 2, cells := 0, slots := 0, locals := 43 } : Room) (ep_Pc G ep_cl h [.ref a0, .int x1]) (ep_Qi G ep_cl h res) 0 0 (ep_A G) := by
  refine Met.ofW (cc := cX4_allOf) (maxL := 4) (ret := (some .int)) (by decide) rfl ?_
  intro p e s m args below meth c s₁ B hml hv
  obtain ⟨rfl, hR, hK, hZ⟩ := hv
  have hx := B.exec
  have hb := B.bytes
  have hr := B.returns
  have hlocks := B.notSynchronized
  have hts := atoms_spec (ws := (ws_ yX4_allOf cX4_allOf 4 (some .int))) B.pre
  have hts : ∀ w ∈ lw_all, w.before _ s = true := fun w h => hts w (List.mem_cons_of_mem _ h)
  have hown : s.vm.findClass RX4 = some m.cls := findClass_of_methodNamed B.named
  have hw : ep_W G ep_cl h s s.heap [] := ⟨hR, va_S.rf⟩
  have hl := lv_entry ([.ref a0, .int x1]) (n := 4) (Nat.le_of_ble_eq_true rfl)
  rw [lg_entry_eq]
  generalize (lg_sl ([.ref a0, .int x1]) ++ List.replicate (4 - (lg_sl ([.ref a0, .int x1])).length) Slot.unset).toArray = ls at hl ⊢
  have hl : lv_has ls 4 [(0, .ref a0), (1, .int x1)] := hl
  unfold fX4_allOf at hf
  have hf := (oi_c hf).2
  show wX4_allOf p l e s m below meth c G h a0 x1 res 0 0 s.heap ([]) (F0 m 0 ls [])
  refine lv_iconst (v := iI 0) hx hb dX4_allOf_0 rfl ?_
  refine lv_istore_n (lv' := [(2, .int (iI 0)), (0, .ref a0), (1, .int x1)]) hx hb dX4_allOf_1 rfl hl (by decide) rfl (fun ls hl => ?_)
  refine lv_iconst (v := iI 0) hx hb dX4_allOf_2 rfl ?_
  refine lv_istore_n (lv' := [(3, .int (iI 0)), (2, .int (iI 0)), (0, .ref a0), (1, .int x1)]) hx hb dX4_allOf_3 rfl hl (by decide) rfl (fun ls hl => ?_)
  obtain ⟨o1, ho1, hf⟩ := ob_s hf
  have hJ1 : ∀ (H : Heap) (locs : List Loc) (ls : Array Slot), ep_W G ep_cl h s H locs → lv_has ls 4 [(2, .int o1)] → wX4_allOf p l e s m below meth c G h a0 x1 res 0 0 H locs (F0 m 39 ls []) := by
    intro H locs ls hw hl
    refine lv_iload_n hx hb dX4_allOf_39 rfl (lv_at hl 0 rfl) ?_
    exact ep_retiR hx hb hr hlocks hw hf dX4_allOf_40
  have hL1 : ∀ (fu : Nat) (x2 : Int32) (x3 : Int32), fX4_allOf_L4 h a0 x1 fu x2 x3 = some o1 → ∀ (H : Heap) (locs : List Loc) (ls : Array Slot), ep_W G ep_cl h s H locs → lv_has ls 4 [(0, .ref a0), (1, .int x1), (2, .int x2), (3, .int x3)] → wX4_allOf p l e s m below meth c G h a0 x1 res 0 0 H locs (F0 m 4 ls []) := by
    intro fu
    induction fu with
    | zero => intro x2 x3 ho1; cases ho1
    | succ fu ih1 =>
      intro x2 x3 ho1 H locs ls hw hl
      rw [fX4_allOf_L4] at ho1
      refine lv_iload_n hx hb dX4_allOf_4 rfl (lv_at hl 3 rfl) ?_
      refine lv_aload_n hx hb dX4_allOf_5 rfl (lv_at hl 0 rfl) ?_
      obtain ⟨v2, ev2, ho1⟩ := ob_s ho1
      refine ep_get (C := RX4) (T := TX4) (N := 32) (ci := 4) hx hb hts in_X4 hown hK hw rfl 4 (by decide) q1143 (gI_f ev2) dX4_allOf_6 ?_
      refine lv_icmp_ge (tgt := 39) hx hb dX4_allOf_9 (by decide) (fun c3 => ?_) (fun c3 => ?_)
      · have ho1 := oi_t ho1 c3
        obtain rfl := Option.some.inj ho1
        exact hJ1 _ _ _ hw (lv_sub hl [2] rfl)
      · have ho1 := oi_f ho1 c3
        refine lv_iload_n hx hb dX4_allOf_12 rfl (lv_at hl 2 rfl) ?_
        refine lv_aload_n hx hb dX4_allOf_13 rfl (lv_at hl 0 rfl) ?_
        refine lv_iload_n hx hb dX4_allOf_14 rfl (lv_at hl 3 rfl) ?_
        obtain ⟨v4, ev4, ho1⟩ := ob_s ho1
        refine ep_calli0 (va_runV (As := [.int x3]) (rest := [.int x2]) ⟨hx, hb, hml, hown, hts⟩ (metX4_isSold l G h a0 x3 ev4) (cwV 1 hts (lw_V q1360 q1362 qs56 q89 q1363) rfl rfl rfl hdX4_isSold ⟨Nat.le_of_ble_eq_true rfl, Nat.le_of_ble_eq_true rfl⟩) (ep_preV hK hZ hw rfl (ckX4_isSold ev4)) rfl rfl hl.1 rfl (lv_room (Nat.le_of_ble_eq_true rfl)) dX4_allOf_15 ⟨Nat.le_of_ble_eq_true rfl, Nat.le_of_ble_eq_true rfl⟩) hw (fun H locs hw => ?_)
        obtain ⟨o5, ho5, ho1⟩ := ob_s ho1
        have hJ5 : ∀ (H : Heap) (locs : List Loc) (ls : Array Slot), ep_W G ep_cl h s H locs → lv_has ls 4 [(0, .ref a0), (1, .int x1), (3, .int x3)] → wX4_allOf p l e s m below meth c G h a0 x1 res 0 0 H locs (F0 m 31 ls [.int o5, .int x2]) := by
          intro H locs ls hw hl
          refine lv_iadd hx hb dX4_allOf_31 ?_
          refine lv_istore_n (lv' := [(2, .int (x2 + o5)), (0, .ref a0), (1, .int x1), (3, .int x3)]) hx hb dX4_allOf_32 rfl hl (by decide) rfl (fun ls hl => ?_)
          refine lv_iinc (v := (x3 + iI 1)) (lv' := [(3, .int (x3 + iI 1)), (2, .int (x2 + o5)), (0, .ref a0), (1, .int x1)]) hx hb dX4_allOf_33 hl (k := 3) rfl rfl (by decide) rfl (fun ls hl => ?_)
          refine lv_goto (tgt := 4) hx hb dX4_allOf_36 (by decide) ?_
          exact ih1 _ _ ho1 _ _ _ hw (lv_sub hl [2, 3, 1, 0] rfl)
        refine lv_if_eq (tgt := 25) hx hb dX4_allOf_18 (by decide) (fun c6 => ?_) (fun c6 => ?_)
        · have ho5 := oi_t ho5 c6
          refine lv_aload_n hx hb dX4_allOf_25 rfl (lv_at hl 0 rfl) ?_
          refine lv_iload_n hx hb dX4_allOf_26 rfl (lv_at hl 3 rfl) ?_
          refine lv_iload_n hx hb dX4_allOf_27 rfl (lv_at hl 1 rfl) ?_
          obtain ⟨v7, ev7, ho5⟩ := ob_s ho5
          refine ep_calli0 (va_runV (As := [.int x3, .int x1]) (rest := [.int x2]) ⟨hx, hb, hml, hown, hts⟩ (metX4_of l G h a0 x3 x1 ev7) (cwV 2 hts (lw_V q1327 q1329 qs50 q89 q1330) rfl rfl rfl hdX4_of ⟨Nat.le_of_ble_eq_true rfl, Nat.le_of_ble_eq_true rfl⟩) (ep_preV hK hZ hw rfl (ckX4_of ev7)) rfl rfl hl.1 rfl (lv_room (Nat.le_of_ble_eq_true rfl)) dX4_allOf_28 ⟨Nat.le_of_ble_eq_true rfl, Nat.le_of_ble_eq_true rfl⟩) hw (fun H locs hw => ?_)
          obtain rfl := Option.some.inj ho5
          exact hJ5 _ _ _ hw (lv_sub hl [0, 1, 3] rfl)
        · have ho5 := oi_f ho5 c6
          refine lv_iconst (v := iI 0) hx hb dX4_allOf_21 rfl ?_
          refine lv_goto (tgt := 31) hx hb dX4_allOf_22 (by decide) ?_
          obtain rfl := Option.some.inj ho5
          exact hJ5 _ _ _ hw (lv_sub hl [0, 1, 3] rfl)
  exact hL1 FUEL _ _ ho1 _ _ _ hw (lv_sub hl [2, 3, 1, 0] rfl)
theorem hdX4_drift : yX4_drift.cls = RX4 ∧ yX4_drift.cls ≠ "java/lang/invoke/MethodHandle" ∧ yX4_drift.cls ≠ "java/lang/invoke/VarHandle" ∧ (parseMethodDescriptor yX4_drift.desc).map (fun d => d.parameters.length) = some 3 := by decide +kernel
theorem ckX4_drift {h : Hp} {a0 : Nat} {x1 : Int32} {x2 : Int32} {x3 : Int32} {res : Int32 × Hp} (hf : fX4_drift h a0 x1 x2 x3 = some res) : ep_cls h a0 = some 4 := by
  unfold fX4_drift at hf
  exact (oi_c hf).1
abbrev wX4_drift (p : Program) (l : Launch) (e : Env) (s : State) (m : MethodId) (below : List Frame) (meth : Method) (c : Code) (G : EG) (h : Hp) (a0 : Nat) (x1 : Int32) (x2 : Int32) (x3 : Int32) (res : Int32 × Hp) (k9 n9 : Nat) (H : Heap) (locs : List Loc) (g : JFrame) : Prop := W p l e (headSpec (ws_ yX4_drift cX4_drift 7 (some .int)) ({ frames := 4, cells := 0, slots := 0, locals := 87 } : Room)).room s m ([.ref a0, .int x1, .int x2, .int x3] : List Value).toArray below meth c H locs k9 n9 (MQ below (ep_Qi G ep_cl res.2 res.1) ([.ref a0, .int x1, .int x2, .int x3] : List Value).toArray s 0 0 (ep_A G)) g
set_option maxHeartbeats 4000000 in
theorem metX4_drift (l : Launch) (G : EG) (h : Hp) (a0 : Nat) (x1 : Int32) (x2 : Int32) (x3 : Int32) {res : Int32 × Hp} (hf : fX4_drift h a0 x1 x2 x3 = some res) : Met l yX4_drift (ws_ yX4_drift cX4_drift 7 (some .int)) ({ frames := 4, cells := 0, slots := 0, locals := 87 } : Room) (ep_Pc G ep_cl h [.ref a0, .int x1, .int x2, .int x3]) (ep_Qi G ep_cl res.2 res.1) 0 0 (ep_A G) := by
  refine Met.ofW (cc := cX4_drift) (maxL := 7) (ret := (some .int)) (by decide) rfl ?_
  intro p e s m args below meth c s₁ B hml hv
  obtain ⟨rfl, hR, hK, hZ⟩ := hv
  have hx := B.exec
  have hb := B.bytes
  have hr := B.returns
  have hlocks := B.notSynchronized
  have hts := atoms_spec (ws := (ws_ yX4_drift cX4_drift 7 (some .int))) B.pre
  have hts : ∀ w ∈ lw_all, w.before _ s = true := fun w h => hts w (List.mem_cons_of_mem _ h)
  have hown : s.vm.findClass RX4 = some m.cls := findClass_of_methodNamed B.named
  have hw : ep_W G ep_cl h s s.heap [] := ⟨hR, va_S.rf⟩
  have hl := lv_entry ([.ref a0, .int x1, .int x2, .int x3]) (n := 7) (Nat.le_of_ble_eq_true rfl)
  rw [lg_entry_eq]
  generalize (lg_sl ([.ref a0, .int x1, .int x2, .int x3]) ++ List.replicate (7 - (lg_sl ([.ref a0, .int x1, .int x2, .int x3])).length) Slot.unset).toArray = ls at hl ⊢
  have hl : lv_has ls 7 [(0, .ref a0), (1, .int x1), (2, .int x2), (3, .int x3)] := hl
  unfold fX4_drift at hf
  have hf := (oi_c hf).2
  show wX4_drift p l e s m below meth c G h a0 x1 x2 x3 res 0 0 s.heap ([]) (F0 m 0 ls [])
  refine lv_iload_n hx hb dX4_drift_0 rfl (lv_at hl 2 rfl) ?_
  refine lv_i2l (v := x2.toInt64) hx hb dX4_drift_1 rfl ?_
  refine lv_lconst (v := lI 1) hx hb dX4_drift_2 (by decide) ?_
  refine lv_ldc2 (v := (30 : Int64)) hx hb hown (hts _ q1438) dX4_drift_3 ?_
  obtain ⟨v1, ev1, hf⟩ := ob_s hf
  refine ep_calli0 (va_runS (As := [.long x2.toInt64, .long (lI 1), .long (30 : Int64)]) (rest := []) ⟨hx, hb, hml, hown, hts⟩ (metX4_in l G h x2.toInt64 (lI 1) (30 : Int64) ev1) (va_cwS 3 hts (lw_S q1242 q1243 q89 q1244) rfl rfl rfl hsX4_in ⟨Nat.le_of_ble_eq_true rfl, Nat.le_of_ble_eq_true rfl⟩) (ep_preS hK hZ hw) rfl rfl hl.1 rfl (lv_room (Nat.le_of_ble_eq_true rfl)) dX4_drift_6 ⟨Nat.le_of_ble_eq_true rfl, Nat.le_of_ble_eq_true rfl⟩) hw (fun H locs hw => ?_)
  refine lv_if_eq (tgt := 19) hx hb dX4_drift_9 (by decide) (fun c2 => ?_) (fun c2 => ?_)
  · have hf := oi_t hf c2
    refine lv_iconst (v := iI (-1)) hx hb dX4_drift_19 rfl ?_
    exact ep_retiW hx hb hr hlocks hw hf dX4_drift_20
  · have hf := oi_f hf c2
    refine lv_iload_n hx hb dX4_drift_12 rfl (lv_at hl 3 rfl) ?_
    obtain ⟨v3, ev3, hf⟩ := ob_s hf
    refine ep_calli0 (va_runS (As := [.int x3]) (rest := []) ⟨hx, hb, hml, hown, hts⟩ (metX4_isPart l G h x3 ev3) (va_cwS 1 hts (lw_S q1399 q1400 q89 q1401) rfl rfl rfl hsX4_isPart ⟨Nat.le_of_ble_eq_true rfl, Nat.le_of_ble_eq_true rfl⟩) (ep_preS hK hZ hw) rfl rfl hl.1 rfl (lv_room (Nat.le_of_ble_eq_true rfl)) dX4_drift_13 ⟨Nat.le_of_ble_eq_true rfl, Nat.le_of_ble_eq_true rfl⟩) hw (fun H locs hw => ?_)
    refine lv_if_ne (tgt := 21) hx hb dX4_drift_16 (by decide) (fun c4 => ?_) (fun c4 => ?_)
    · have hf := oi_f hf c4
      refine lv_aload_n hx hb dX4_drift_21 rfl (lv_at hl 0 rfl) ?_
      obtain ⟨v5, ev5, hf⟩ := ob_s hf
      refine ep_get (C := RX4) (T := TX4) (N := 32) (ci := 4) hx hb hts in_X4 hown hK hw rfl 4 (by decide) q1143 (gI_f ev5) dX4_drift_22 ?_
      refine lv_if_ne (tgt := 31) hx hb dX4_drift_25 (by decide) (fun c6 => ?_) (fun c6 => ?_)
      · have hf := oi_f hf c6
        refine lv_iload_n hx hb dX4_drift_31 rfl (lv_at hl 1 rfl) ?_
        refine lv_istore (lv' := [(4, .int x1), (0, .ref a0), (1, .int x1), (2, .int x2), (3, .int x3)]) hx hb dX4_drift_32 hl (by decide) rfl (fun ls hl => ?_)
        refine lv_aload_n hx hb dX4_drift_34 rfl (lv_at hl 1 rfl) ?_
        obtain ⟨o7, eo7, hf⟩ := ob_s hf
        refine ep_callv0 (va_runV (As := []) (rest := []) ⟨hx, hb, hml, hown, hts⟩ (metX4_starts l G h a0 eo7) (cwV 0 hts (lw_V q1319 q1321 qs48 q89 q1322) rfl rfl rfl hdX4_starts ⟨Nat.le_of_ble_eq_true rfl, Nat.le_of_ble_eq_true rfl⟩) (ep_preV hK hZ hw rfl (ckX4_starts eo7)) rfl rfl hl.1 rfl (lv_room (Nat.le_of_ble_eq_true rfl)) dX4_drift_35 ⟨Nat.le_of_ble_eq_true rfl, Nat.le_of_ble_eq_true rfl⟩) hw (fun H locs hw => ?_)
        refine lv_iconst (v := iI 0) hx hb dX4_drift_38 rfl ?_
        refine lv_istore (lv' := [(5, .int (iI 0)), (4, .int x1), (0, .ref a0), (1, .int x1), (2, .int x2), (3, .int x3)]) hx hb dX4_drift_39 hl (by decide) rfl (fun ls hl => ?_)
        obtain ⟨o8, ho8, hf⟩ := ob_s hf
        have hJ8 : ∀ (H : Heap) (locs : List Loc) (ls : Array Slot), ep_W G ep_cl o8 s H locs → lv_has ls 7 [(0, .ref a0), (3, .int x3)] → wX4_drift p l e s m below meth c G h a0 x1 x2 x3 res 0 0 H locs (F0 m 100 ls []) := by
          intro H locs ls hw hl
          refine lv_aload_n hx hb dX4_drift_100 rfl (lv_at hl 0 rfl) ?_
          refine lv_iload_n hx hb dX4_drift_101 rfl (lv_at hl 1 rfl) ?_
          have hJ17 : wX4_drift p l e s m below meth c G h a0 x1 x2 x3 res 0 0 H locs (F0 m 110 ls [.int (if x3 = 0 then iI 1 else iI 3), .ref a0]) := by
            obtain ⟨v19, ev19, hf⟩ := ob_s hf
            refine ep_calli0 (va_runV (As := [.int (if x3 = 0 then iI 1 else iI 3)]) (rest := []) ⟨hx, hb, hml, hown, hts⟩ (metX4_allOf l G o8 a0 (if x3 = 0 then iI 1 else iI 3) ev19) (cwV 1 hts (lw_V q1595 q1597 qs82 q89 q1598) rfl rfl rfl hdX4_allOf ⟨Nat.le_of_ble_eq_true rfl, Nat.le_of_ble_eq_true rfl⟩) (ep_preV hK hZ hw rfl (ckX4_allOf ev19)) rfl rfl hl.1 rfl (lv_room (Nat.le_of_ble_eq_true rfl)) dX4_drift_110 ⟨Nat.le_of_ble_eq_true rfl, Nat.le_of_ble_eq_true rfl⟩) hw (fun H locs hw => ?_)
            exact ep_retiW hx hb hr hlocks hw hf dX4_drift_113
          refine lv_if_ne (tgt := 109) hx hb dX4_drift_102 (by decide) (fun c18 => ?_) (fun c18 => ?_)
          · refine lv_iconst (v := iI 3) hx hb dX4_drift_109 rfl ?_
            rw [if_neg c18] at hJ17
            exact hJ17
          · refine lv_iconst (v := iI 1) hx hb dX4_drift_105 rfl ?_
            refine lv_goto (tgt := 110) hx hb dX4_drift_106 (by decide) ?_
            rw [if_pos c18] at hJ17
            exact hJ17
        have hL8 : ∀ (fu : Nat) (h : Hp) (x4 : Int32) (x5 : Int32), fX4_drift_L41 a0 x2 x3 fu h x4 x5 = some o8 → ∀ (H : Heap) (locs : List Loc) (ls : Array Slot), ep_W G ep_cl h s H locs → lv_has ls 7 [(0, .ref a0), (2, .int x2), (3, .int x3), (4, .int x4), (5, .int x5)] → wX4_drift p l e s m below meth c G h a0 x1 x2 x3 res 0 0 H locs (F0 m 41 ls []) := by
          intro fu
          induction fu with
          | zero => intro h x4 x5 ho8; cases ho8
          | succ fu ih8 =>
            intro h x4 x5 ho8 H locs ls hw hl
            rw [fX4_drift_L41] at ho8
            refine lv_iload hx hb dX4_drift_41 (lv_at hl 4 rfl) ?_
            refine lv_iload_n hx hb dX4_drift_43 rfl (lv_at hl 1 rfl) ?_
            refine lv_icmp_ge (tgt := 100) hx hb dX4_drift_44 (by decide) (fun c9 => ?_) (fun c9 => ?_)
            · have ho8 := oi_t ho8 c9
              obtain rfl := Option.some.inj ho8
              exact hJ8 _ _ _ hw (lv_sub hl [0, 2] rfl)
            · have ho8 := oi_f ho8 c9
              refine lv_iload hx hb dX4_drift_47 (lv_at hl 3 rfl) ?_
              refine lv_ldcw (v := (1103515245 : Int32)) hx hb hown (hts _ q1594) dX4_drift_49 ?_
              refine lv_imul hx hb dX4_drift_52 ?_
              refine lv_sipush (v := iI 12345) hx hb dX4_drift_53 (by decide) ?_
              refine lv_iadd hx hb dX4_drift_56 ?_
              refine lv_istore (lv' := [(4, .int ((x4 * (1103515245 : Int32)) + (iI 12345))), (0, .ref a0), (2, .int x2), (3, .int x3), (5, .int x5)]) hx hb dX4_drift_57 hl (by decide) rfl (fun ls hl => ?_)
              refine lv_iload hx hb dX4_drift_59 (lv_at hl 0 rfl) ?_
              refine lv_bipush (v := iI 16) hx hb dX4_drift_61 (by decide) ?_
              refine lv_ishr hx hb dX4_drift_63 ?_
              refine lv_sipush (v := iI 32767) hx hb dX4_drift_64 (by decide) ?_
              refine lv_iand hx hb dX4_drift_67 ?_
              refine lv_aload_n hx hb dX4_drift_68 rfl (lv_at hl 1 rfl) ?_
              obtain ⟨v10, ev10, ho8⟩ := ob_s ho8
              refine ep_get (C := RX4) (T := TX4) (N := 32) (ci := 4) hx hb hts in_X4 hown hK hw rfl 4 (by decide) q1143 (gI_f ev10) dX4_drift_69 ?_
              obtain ⟨v11, ev11, ho8⟩ := ob_s ho8
              refine ep_irem hx hb ev11 dX4_drift_72 ?_
              refine lv_istore (lv' := [(6, .int v11), (4, .int ((x4 * (1103515245 : Int32)) + (iI 12345))), (0, .ref a0), (2, .int x2), (3, .int x3), (5, .int x5)]) hx hb dX4_drift_73 hl (by decide) rfl (fun ls hl => ?_)
              refine lv_aload_n hx hb dX4_drift_75 rfl (lv_at hl 2 rfl) ?_
              refine lv_iload hx hb dX4_drift_76 (lv_at hl 0 rfl) ?_
              obtain ⟨v12, ev12, ho8⟩ := ob_s ho8
              refine ep_calli0 (va_runV (As := [.int v11]) (rest := []) ⟨hx, hb, hml, hown, hts⟩ (metX4_isSold l G h a0 v11 ev12) (cwV 1 hts (lw_V q1360 q1362 qs56 q89 q1363) rfl rfl rfl hdX4_isSold ⟨Nat.le_of_ble_eq_true rfl, Nat.le_of_ble_eq_true rfl⟩) (ep_preV hK hZ hw rfl (ckX4_isSold ev12)) rfl rfl hl.1 rfl (lv_room (Nat.le_of_ble_eq_true rfl)) dX4_drift_78 ⟨Nat.le_of_ble_eq_true rfl, Nat.le_of_ble_eq_true rfl⟩) hw (fun H locs hw => ?_)
              obtain ⟨o13, ho13, ho8⟩ := ob_s ho8
              have hJ13 : ∀ (H : Heap) (locs : List Loc) (ls : Array Slot), ep_W G ep_cl o13 s H locs → lv_has ls 7 [(0, .ref a0), (2, .int x2), (3, .int x3), (4, .int ((x4 * (1103515245 : Int32)) + (iI 12345))), (5, .int x5)] → wX4_drift p l e s m below meth c G h a0 x1 x2 x3 res 0 0 H locs (F0 m 90 ls []) := by
                intro H locs ls hw hl
                refine lv_aload_n hx hb dX4_drift_90 rfl (lv_at hl 0 rfl) ?_
                obtain ⟨o16, eo16, ho8⟩ := ob_s ho8
                refine ep_callv0 (va_runV (As := []) (rest := []) ⟨hx, hb, hml, hown, hts⟩ (metX4_weekGoes l G o13 a0 eo16) (cwV 0 hts (lw_V q1443 q1445 qs65 q89 q1446) rfl rfl rfl hdX4_weekGoes ⟨Nat.le_of_ble_eq_true rfl, Nat.le_of_ble_eq_true rfl⟩) (ep_preV hK hZ hw rfl (ckX4_weekGoes eo16)) rfl rfl hl.1 rfl (lv_room (Nat.le_of_ble_eq_true rfl)) dX4_drift_91 ⟨Nat.le_of_ble_eq_true rfl, Nat.le_of_ble_eq_true rfl⟩) hw (fun H locs hw => ?_)
                refine lv_iinc (v := (x5 + iI 1)) (lv' := [(5, .int (x5 + iI 1)), (0, .ref a0), (2, .int x2), (3, .int x3), (4, .int ((x4 * (1103515245 : Int32)) + (iI 12345)))]) hx hb dX4_drift_94 hl (k := 4) rfl rfl (by decide) rfl (fun ls hl => ?_)
                refine lv_goto (tgt := 41) hx hb dX4_drift_97 (by decide) ?_
                exact ih8 _ _ _ ho8 _ _ _ hw (lv_sub hl [1, 2, 3, 4, 0] rfl)
              refine lv_if_ne (tgt := 90) hx hb dX4_drift_81 (by decide) (fun c14 => ?_) (fun c14 => ?_)
              · have ho13 := oi_f ho13 c14
                obtain rfl := Option.some.inj ho13
                exact hJ13 _ _ _ hw (lv_sub hl [2, 3, 4, 1, 5] rfl)
              · have ho13 := oi_t ho13 c14
                refine lv_aload_n hx hb dX4_drift_84 rfl (lv_at hl 2 rfl) ?_
                refine lv_iload hx hb dX4_drift_85 (lv_at hl 0 rfl) ?_
                obtain ⟨o15, eo15, ho13⟩ := ob_s ho13
                refine ep_callv0 (va_runV (As := [.int v11]) (rest := []) ⟨hx, hb, hml, hown, hts⟩ (metX4_losesLetter l G h a0 v11 eo15) (cwV 1 hts (lw_V q1414 q1416 qs61 q89 q1417) rfl rfl rfl hdX4_losesLetter ⟨Nat.le_of_ble_eq_true rfl, Nat.le_of_ble_eq_true rfl⟩) (ep_preV hK hZ hw rfl (ckX4_losesLetter eo15)) rfl rfl hl.1 rfl (lv_room (Nat.le_of_ble_eq_true rfl)) dX4_drift_87 ⟨Nat.le_of_ble_eq_true rfl, Nat.le_of_ble_eq_true rfl⟩) hw (fun H locs hw => ?_)
                obtain rfl := Option.some.inj ho13
                exact hJ13 _ _ _ hw (lv_sub hl [2, 3, 4, 1, 5] rfl)
        exact hL8 FUEL _ _ _ ho8 _ _ _ hw (lv_sub hl [2, 4, 5, 1, 0] rfl)
      · have hf := oi_t hf c6
        refine lv_bipush (v := iI (-2)) hx hb dX4_drift_28 (by decide) ?_
        exact ep_retiW hx hb hr hlocks hw hf dX4_drift_30
    · have hf := oi_t hf c4
      refine lv_iconst (v := iI (-1)) hx hb dX4_drift_19 rfl ?_
      exact ep_retiW hx hb hr hlocks hw hf dX4_drift_20
theorem hdX4_copies : yX4_copies.cls = RX4 ∧ yX4_copies.cls ≠ "java/lang/invoke/MethodHandle" ∧ yX4_copies.cls ≠ "java/lang/invoke/VarHandle" ∧ (parseMethodDescriptor yX4_copies.desc).map (fun d => d.parameters.length) = some 2 := by decide +kernel
theorem ckX4_copies {h : Hp} {a0 : Nat} {x1 : Int32} {x2 : Int32} {res : Hp} (hf : fX4_copies h a0 x1 x2 = some res) : ep_cls h a0 = some 4 := by
  unfold fX4_copies at hf
  exact (oi_c hf).1
abbrev wX4_copies (p : Program) (l : Launch) (e : Env) (s : State) (m : MethodId) (below : List Frame) (meth : Method) (c : Code) (G : EG) (h : Hp) (a0 : Nat) (x1 : Int32) (x2 : Int32) (res : Hp) (k9 n9 : Nat) (H : Heap) (locs : List Loc) (g : JFrame) : Prop := W p l e (headSpec (ws_ yX4_copies cX4_copies 4 none) ({ frames := 0, cells := 0, slots := 0, locals := 0 } : Room)).room s m ([.ref a0, .int x1, .int x2] : List Value).toArray below meth c H locs k9 n9 (MQ below (ep_Qv G ep_cl res) ([.ref a0, .int x1, .int x2] : List Value).toArray s 0 0 (ep_A G)) g
set_option maxHeartbeats 4000000 in
theorem metX4_copies (l : Launch) (G : EG) (h : Hp) (a0 : Nat) (x1 : Int32) (x2 : Int32) {res : Hp} (hf : fX4_copies h a0 x1 x2 = some res) : Met l yX4_copies (ws_ yX4_copies cX4_copies 4 none) ({ frames := 0, cells := 0, slots := 0, locals := 0 } : Room) (ep_Pc G ep_cl h [.ref a0, .int x1, .int x2]) (ep_Qv G ep_cl res) 0 0 (ep_A G) := by
  refine Met.ofW (cc := cX4_copies) (maxL := 4) (ret := none) (by decide) rfl ?_
  intro p e s m args below meth c s₁ B hml hv
  obtain ⟨rfl, hR, hK, hZ⟩ := hv
  have hx := B.exec
  have hb := B.bytes
  have hr := B.returns
  have hlocks := B.notSynchronized
  have hts := atoms_spec (ws := (ws_ yX4_copies cX4_copies 4 none)) B.pre
  have hts : ∀ w ∈ lw_all, w.before _ s = true := fun w h => hts w (List.mem_cons_of_mem _ h)
  have hown : s.vm.findClass RX4 = some m.cls := findClass_of_methodNamed B.named
  have hw : ep_W G ep_cl h s s.heap [] := ⟨hR, va_S.rf⟩
  have hl := lv_entry ([.ref a0, .int x1, .int x2]) (n := 4) (Nat.le_of_ble_eq_true rfl)
  rw [lg_entry_eq]
  generalize (lg_sl ([.ref a0, .int x1, .int x2]) ++ List.replicate (4 - (lg_sl ([.ref a0, .int x1, .int x2])).length) Slot.unset).toArray = ls at hl ⊢
  have hl : lv_has ls 4 [(0, .ref a0), (1, .int x1), (2, .int x2)] := hl
  unfold fX4_copies at hf
  have hf := (oi_c hf).2
  show wX4_copies p l e s m below meth c G h a0 x1 x2 res 0 0 s.heap ([]) (F0 m 0 ls [])
  refine lv_iconst (v := iI 0) hx hb dX4_copies_0 rfl ?_
  refine lv_istore_n (lv' := [(3, .int (iI 0)), (0, .ref a0), (1, .int x1), (2, .int x2)]) hx hb dX4_copies_1 rfl hl (by decide) rfl (fun ls hl => ?_)
  obtain ⟨o1, ho1, hf⟩ := ob_s hf
  have hJ1 : ∀ (H : Heap) (locs : List Loc) (ls : Array Slot), ep_W G ep_cl o1 s H locs → lv_has ls 4 [] → wX4_copies p l e s m below meth c G h a0 x1 x2 res 0 0 H locs (F0 m 30 ls []) := by
    intro H locs ls hw hl
    exact ep_retvW hx hb hr hlocks hw hf dX4_copies_30
  have hL1 : ∀ (fu : Nat) (h : Hp) (x3 : Int32), fX4_copies_L2 a0 x1 x2 fu h x3 = some o1 → ∀ (H : Heap) (locs : List Loc) (ls : Array Slot), ep_W G ep_cl h s H locs → lv_has ls 4 [(0, .ref a0), (1, .int x1), (2, .int x2), (3, .int x3)] → wX4_copies p l e s m below meth c G h a0 x1 x2 res 0 0 H locs (F0 m 2 ls []) := by
    intro fu
    induction fu with
    | zero => intro h x3 ho1; cases ho1
    | succ fu ih1 =>
      intro h x3 ho1 H locs ls hw hl
      rw [fX4_copies_L2] at ho1
      refine lv_iload_n hx hb dX4_copies_2 rfl (lv_at hl 3 rfl) ?_
      refine lv_bipush (v := iI 75) hx hb dX4_copies_3 (by decide) ?_
      refine lv_icmp_ge (tgt := 30) hx hb dX4_copies_5 (by decide) (fun c2 => ?_) (fun c2 => ?_)
      · have ho1 := oi_t ho1 c2
        obtain rfl := Option.some.inj ho1
        exact hJ1 _ _ _ hw (lv_sub hl [] rfl)
      · have ho1 := oi_f ho1 c2
        refine lv_aload_n hx hb dX4_copies_8 rfl (lv_at hl 0 rfl) ?_
        obtain ⟨r3, er3, ho1⟩ := ob_s ho1
        refine ep_get (C := RX4) (T := TX4) (N := 32) (ci := 4) hx hb hts in_X4 hown hK hw rfl 0 (by decide) q1139 (gR_f er3) dX4_copies_9 ?_
        refine lv_iload_n hx hb dX4_copies_12 rfl (lv_at hl 1 rfl) ?_
        refine lv_iload_n hx hb dX4_copies_13 rfl (lv_at hl 3 rfl) ?_
        refine lv_iadd hx hb dX4_copies_14 ?_
        refine lv_aload_n hx hb dX4_copies_15 rfl (lv_at hl 0 rfl) ?_
        obtain ⟨r4, er4, ho1⟩ := ob_s ho1
        refine ep_get (C := RX4) (T := TX4) (N := 32) (ci := 4) hx hb hts in_X4 hown hK hw rfl 0 (by decide) q1139 (gR_f er4) dX4_copies_16 ?_
        refine lv_iload_n hx hb dX4_copies_19 rfl (lv_at hl 2 rfl) ?_
        refine lv_iload_n hx hb dX4_copies_20 rfl (lv_at hl 3 rfl) ?_
        refine lv_iadd hx hb dX4_copies_21 ?_
        obtain ⟨v5, ev5, ho1⟩ := ob_s ho1
        refine ep_iald hx hb hK hw ev5 dX4_copies_22 ?_
        obtain ⟨h6, eh6, ho1⟩ := ob_s ho1
        refine ep_iast hx hb hK hw eh6 dX4_copies_23 (fun H locs hw => ?_)
        refine lv_iinc (v := (x3 + iI 1)) (lv' := [(3, .int (x3 + iI 1)), (0, .ref a0), (1, .int x1), (2, .int x2)]) hx hb dX4_copies_24 hl (k := 3) rfl rfl (by decide) rfl (fun ls hl => ?_)
        refine lv_goto (tgt := 2) hx hb dX4_copies_27 (by decide) ?_
        exact ih1 _ _ ho1 _ _ _ hw (lv_sub hl [1, 2, 3, 0] rfl)
  exact hL1 FUEL _ _ ho1 _ _ _ hw (lv_sub hl [1, 2, 3, 0] rfl)
theorem hdX4_keep : yX4_keep.cls = RX4 ∧ yX4_keep.cls ≠ "java/lang/invoke/MethodHandle" ∧ yX4_keep.cls ≠ "java/lang/invoke/VarHandle" ∧ (parseMethodDescriptor yX4_keep.desc).map (fun d => d.parameters.length) = some 1 := by decide +kernel
theorem ckX4_keep {h : Hp} {a0 : Nat} {x1 : Int32} {res : Int32 × Hp} (hf : fX4_keep h a0 x1 = some res) : ep_cls h a0 = some 4 := by
  unfold fX4_keep at hf
  exact (oi_c hf).1
abbrev wX4_keep (p : Program) (l : Launch) (e : Env) (s : State) (m : MethodId) (below : List Frame) (meth : Method) (c : Code) (G : EG) (h : Hp) (a0 : Nat) (x1 : Int32) (res : Int32 × Hp) (k9 n9 : Nat) (H : Heap) (locs : List Loc) (g : JFrame) : Prop := W p l e (headSpec (ws_ yX4_keep cX4_keep 3 (some .int)) ({ frames := 1, cells := 0, slots := 0, locals := 25 } : Room)).room s m ([.ref a0, .int x1] : List Value).toArray below meth c H locs k9 n9 (MQ below (ep_Qi G ep_cl res.2 res.1) ([.ref a0, .int x1] : List Value).toArray s 0 0 (ep_A G)) g
set_option maxHeartbeats 4000000 in
theorem metX4_keep (l : Launch) (G : EG) (h : Hp) (a0 : Nat) (x1 : Int32) {res : Int32 × Hp} (hf : fX4_keep h a0 x1 = some res) : Met l yX4_keep (ws_ yX4_keep cX4_keep 3 (some .int)) ({ frames := 1, cells := 0, slots := 0, locals := 25 } : Room) (ep_Pc G ep_cl h [.ref a0, .int x1]) (ep_Qi G ep_cl res.2 res.1) 0 0 (ep_A G) := by
  refine Met.ofW (cc := cX4_keep) (maxL := 3) (ret := (some .int)) (by decide) rfl ?_
  intro p e s m args below meth c s₁ B hml hv
  obtain ⟨rfl, hR, hK, hZ⟩ := hv
  have hx := B.exec
  have hb := B.bytes
  have hr := B.returns
  have hlocks := B.notSynchronized
  have hts := atoms_spec (ws := (ws_ yX4_keep cX4_keep 3 (some .int))) B.pre
  have hts : ∀ w ∈ lw_all, w.before _ s = true := fun w h => hts w (List.mem_cons_of_mem _ h)
  have hown : s.vm.findClass RX4 = some m.cls := findClass_of_methodNamed B.named
  have hw : ep_W G ep_cl h s s.heap [] := ⟨hR, va_S.rf⟩
  have hl := lv_entry ([.ref a0, .int x1]) (n := 3) (Nat.le_of_ble_eq_true rfl)
  rw [lg_entry_eq]
  generalize (lg_sl ([.ref a0, .int x1]) ++ List.replicate (3 - (lg_sl ([.ref a0, .int x1])).length) Slot.unset).toArray = ls at hl ⊢
  have hl : lv_has ls 3 [(0, .ref a0), (1, .int x1)] := hl
  unfold fX4_keep at hf
  have hf := (oi_c hf).2
  show wX4_keep p l e s m below meth c G h a0 x1 res 0 0 s.heap ([]) (F0 m 0 ls [])
  refine lv_iload_n hx hb dX4_keep_0 rfl (lv_at hl 1 rfl) ?_
  refine lv_i2l (v := x1.toInt64) hx hb dX4_keep_1 rfl ?_
  refine lv_lconst (v := lI 0) hx hb dX4_keep_2 (by decide) ?_
  refine lv_lconst (v := lI 1) hx hb dX4_keep_3 (by decide) ?_
  obtain ⟨v1, ev1, hf⟩ := ob_s hf
  refine ep_calli0 (va_runS (As := [.long x1.toInt64, .long (lI 0), .long (lI 1)]) (rest := []) ⟨hx, hb, hml, hown, hts⟩ (metX4_in l G h x1.toInt64 (lI 0) (lI 1) ev1) (va_cwS 3 hts (lw_S q1242 q1243 q89 q1244) rfl rfl rfl hsX4_in ⟨Nat.le_of_ble_eq_true rfl, Nat.le_of_ble_eq_true rfl⟩) (ep_preS hK hZ hw) rfl rfl hl.1 rfl (lv_room (Nat.le_of_ble_eq_true rfl)) dX4_keep_4 ⟨Nat.le_of_ble_eq_true rfl, Nat.le_of_ble_eq_true rfl⟩) hw (fun H locs hw => ?_)
  refine lv_if_ne (tgt := 12) hx hb dX4_keep_7 (by decide) (fun c2 => ?_) (fun c2 => ?_)
  · have hf := oi_f hf c2
    refine lv_aload_n hx hb dX4_keep_12 rfl (lv_at hl 0 rfl) ?_
    obtain ⟨r3, er3, hf⟩ := ob_s hf
    refine ep_get (C := RX4) (T := TX4) (N := 32) (ci := 4) hx hb hts in_X4 hown hK hw rfl 2 (by decide) q1141 (gR_f er3) dX4_keep_13 ?_
    refine lv_iload_n hx hb dX4_keep_16 rfl (lv_at hl 1 rfl) ?_
    obtain ⟨v4, ev4, hf⟩ := ob_s hf
    refine ep_zald hx hb hK hw ev4 dX4_keep_17 ?_
    obtain ⟨v5, ev5, hf⟩ := ob_s hf
    refine ep_calli0 (va_runS (As := [.int v4]) (rest := []) ⟨hx, hb, hml, hown, hts⟩ (metX4_flag l G h v4 ev5) (va_cwS 1 hts (lw_S q1308 q1309 q89 q1310) rfl rfl rfl hsX4_flag ⟨Nat.le_of_ble_eq_true rfl, Nat.le_of_ble_eq_true rfl⟩) (ep_preS hK hZ hw) rfl rfl hl.1 rfl (lv_room (Nat.le_of_ble_eq_true rfl)) dX4_keep_18 ⟨Nat.le_of_ble_eq_true rfl, Nat.le_of_ble_eq_true rfl⟩) hw (fun H locs hw => ?_)
    refine lv_istore_n (lv' := [(2, .int v5), (0, .ref a0), (1, .int x1)]) hx hb dX4_keep_21 rfl hl (by decide) rfl (fun ls hl => ?_)
    refine lv_aload_n hx hb dX4_keep_22 rfl (lv_at hl 1 rfl) ?_
    obtain ⟨r6, er6, hf⟩ := ob_s hf
    refine ep_get (C := RX4) (T := TX4) (N := 32) (ci := 4) hx hb hts in_X4 hown hK hw rfl 2 (by decide) q1141 (gR_f er6) dX4_keep_23 ?_
    refine lv_iload_n hx hb dX4_keep_26 rfl (lv_at hl 2 rfl) ?_
    refine lv_iconst (v := iI 1) hx hb dX4_keep_27 rfl ?_
    obtain ⟨h7, eh7, hf⟩ := ob_s hf
    refine ep_zast hx hb hK hw rfl eh7 dX4_keep_28 (fun H locs hw => ?_)
    refine lv_aload_n hx hb dX4_keep_29 rfl (lv_at hl 1 rfl) ?_
    refine lv_bipush (v := iI 75) hx hb dX4_keep_30 (by decide) ?_
    refine lv_iload_n hx hb dX4_keep_32 rfl (lv_at hl 2 rfl) ?_
    refine lv_iconst (v := iI 1) hx hb dX4_keep_33 rfl ?_
    refine lv_iadd hx hb dX4_keep_34 ?_
    refine lv_imul hx hb dX4_keep_35 ?_
    refine lv_iconst (v := iI 0) hx hb dX4_keep_36 rfl ?_
    obtain ⟨o8, eo8, hf⟩ := ob_s hf
    refine ep_callv0 (va_runV (As := [.int ((iI 75) * (x1 + (iI 1))), .int (iI 0)]) (rest := []) ⟨hx, hb, hml, hown, hts⟩ (metX4_copies l G h7 a0 ((iI 75) * (x1 + (iI 1))) (iI 0) eo8) (cwV 2 hts (lw_V q1603 q1605 qs83 q89 q1606) rfl rfl rfl hdX4_copies ⟨Nat.le_of_ble_eq_true rfl, Nat.le_of_ble_eq_true rfl⟩) (ep_preV hK hZ hw rfl (ckX4_copies eo8)) rfl rfl hl.1 rfl (lv_room (Nat.le_of_ble_eq_true rfl)) dX4_keep_37 ⟨Nat.le_of_ble_eq_true rfl, Nat.le_of_ble_eq_true rfl⟩) hw (fun H locs hw => ?_)
    refine lv_iload_n hx hb dX4_keep_40 rfl (lv_at hl 0 rfl) ?_
    exact ep_retiW hx hb hr hlocks hw hf dX4_keep_41
  · have hf := oi_t hf c2
    refine lv_iconst (v := iI (-1)) hx hb dX4_keep_10 rfl ?_
    exact ep_retiW hx hb hr hlocks hw hf dX4_keep_11
theorem hdX4_back : yX4_back.cls = RX4 ∧ yX4_back.cls ≠ "java/lang/invoke/MethodHandle" ∧ yX4_back.cls ≠ "java/lang/invoke/VarHandle" ∧ (parseMethodDescriptor yX4_back.desc).map (fun d => d.parameters.length) = some 1 := by decide +kernel
theorem ckX4_back {h : Hp} {a0 : Nat} {x1 : Int32} {res : Int32 × Hp} (hf : fX4_back h a0 x1 = some res) : ep_cls h a0 = some 4 := by
  unfold fX4_back at hf
  exact (oi_c hf).1
abbrev wX4_back (p : Program) (l : Launch) (e : Env) (s : State) (m : MethodId) (below : List Frame) (meth : Method) (c : Code) (G : EG) (h : Hp) (a0 : Nat) (x1 : Int32) (res : Int32 × Hp) (k9 n9 : Nat) (H : Heap) (locs : List Loc) (g : JFrame) : Prop := W p l e (headSpec (ws_ yX4_back cX4_back 2 (some .int)) ({ frames := 1, cells := 0, slots := 0, locals := 25 } : Room)).room s m ([.ref a0, .int x1] : List Value).toArray below meth c H locs k9 n9 (MQ below (ep_Qi G ep_cl res.2 res.1) ([.ref a0, .int x1] : List Value).toArray s 0 0 (ep_A G)) g
set_option maxHeartbeats 4000000 in
theorem metX4_back (l : Launch) (G : EG) (h : Hp) (a0 : Nat) (x1 : Int32) {res : Int32 × Hp} (hf : fX4_back h a0 x1 = some res) : Met l yX4_back (ws_ yX4_back cX4_back 2 (some .int)) ({ frames := 1, cells := 0, slots := 0, locals := 25 } : Room) (ep_Pc G ep_cl h [.ref a0, .int x1]) (ep_Qi G ep_cl res.2 res.1) 0 0 (ep_A G) := by
  refine Met.ofW (cc := cX4_back) (maxL := 2) (ret := (some .int)) (by decide) rfl ?_
  intro p e s m args below meth c s₁ B hml hv
  obtain ⟨rfl, hR, hK, hZ⟩ := hv
  have hx := B.exec
  have hb := B.bytes
  have hr := B.returns
  have hlocks := B.notSynchronized
  have hts := atoms_spec (ws := (ws_ yX4_back cX4_back 2 (some .int))) B.pre
  have hts : ∀ w ∈ lw_all, w.before _ s = true := fun w h => hts w (List.mem_cons_of_mem _ h)
  have hown : s.vm.findClass RX4 = some m.cls := findClass_of_methodNamed B.named
  have hw : ep_W G ep_cl h s s.heap [] := ⟨hR, va_S.rf⟩
  have hl := lv_entry ([.ref a0, .int x1]) (n := 2) (Nat.le_of_ble_eq_true rfl)
  rw [lg_entry_eq]
  generalize (lg_sl ([.ref a0, .int x1]) ++ List.replicate (2 - (lg_sl ([.ref a0, .int x1])).length) Slot.unset).toArray = ls at hl ⊢
  have hl : lv_has ls 2 [(0, .ref a0), (1, .int x1)] := hl
  unfold fX4_back at hf
  have hf := (oi_c hf).2
  show wX4_back p l e s m below meth c G h a0 x1 res 0 0 s.heap ([]) (F0 m 0 ls [])
  refine lv_iload_n hx hb dX4_back_0 rfl (lv_at hl 1 rfl) ?_
  refine lv_i2l (v := x1.toInt64) hx hb dX4_back_1 rfl ?_
  refine lv_lconst (v := lI 0) hx hb dX4_back_2 (by decide) ?_
  refine lv_lconst (v := lI 1) hx hb dX4_back_3 (by decide) ?_
  obtain ⟨v1, ev1, hf⟩ := ob_s hf
  refine ep_calli0 (va_runS (As := [.long x1.toInt64, .long (lI 0), .long (lI 1)]) (rest := []) ⟨hx, hb, hml, hown, hts⟩ (metX4_in l G h x1.toInt64 (lI 0) (lI 1) ev1) (va_cwS 3 hts (lw_S q1242 q1243 q89 q1244) rfl rfl rfl hsX4_in ⟨Nat.le_of_ble_eq_true rfl, Nat.le_of_ble_eq_true rfl⟩) (ep_preS hK hZ hw) rfl rfl hl.1 rfl (lv_room (Nat.le_of_ble_eq_true rfl)) dX4_back_4 ⟨Nat.le_of_ble_eq_true rfl, Nat.le_of_ble_eq_true rfl⟩) hw (fun H locs hw => ?_)
  refine lv_if_ne (tgt := 12) hx hb dX4_back_7 (by decide) (fun c2 => ?_) (fun c2 => ?_)
  · have hf := oi_f hf c2
    refine lv_aload_n hx hb dX4_back_12 rfl (lv_at hl 0 rfl) ?_
    obtain ⟨r3, er3, hf⟩ := ob_s hf
    refine ep_get (C := RX4) (T := TX4) (N := 32) (ci := 4) hx hb hts in_X4 hown hK hw rfl 2 (by decide) q1141 (gR_f er3) dX4_back_13 ?_
    refine lv_iload_n hx hb dX4_back_16 rfl (lv_at hl 1 rfl) ?_
    obtain ⟨v4, ev4, hf⟩ := ob_s hf
    refine ep_zald hx hb hK hw ev4 dX4_back_17 ?_
    refine lv_if_ne (tgt := 24) hx hb dX4_back_18 (by decide) (fun c5 => ?_) (fun c5 => ?_)
    · have hf := oi_f hf c5
      refine lv_aload_n hx hb dX4_back_24 rfl (lv_at hl 0 rfl) ?_
      refine lv_iconst (v := iI 0) hx hb dX4_back_25 rfl ?_
      refine lv_bipush (v := iI 75) hx hb dX4_back_26 (by decide) ?_
      refine lv_iload_n hx hb dX4_back_28 rfl (lv_at hl 1 rfl) ?_
      refine lv_iconst (v := iI 1) hx hb dX4_back_29 rfl ?_
      refine lv_iadd hx hb dX4_back_30 ?_
      refine lv_imul hx hb dX4_back_31 ?_
      obtain ⟨o6, eo6, hf⟩ := ob_s hf
      refine ep_callv0 (va_runV (As := [.int (iI 0), .int ((iI 75) * (x1 + (iI 1)))]) (rest := []) ⟨hx, hb, hml, hown, hts⟩ (metX4_copies l G h a0 (iI 0) ((iI 75) * (x1 + (iI 1))) eo6) (cwV 2 hts (lw_V q1603 q1605 qs83 q89 q1606) rfl rfl rfl hdX4_copies ⟨Nat.le_of_ble_eq_true rfl, Nat.le_of_ble_eq_true rfl⟩) (ep_preV hK hZ hw rfl (ckX4_copies eo6)) rfl rfl hl.1 rfl (lv_room (Nat.le_of_ble_eq_true rfl)) dX4_back_32 ⟨Nat.le_of_ble_eq_true rfl, Nat.le_of_ble_eq_true rfl⟩) hw (fun H locs hw => ?_)
      refine lv_aload_n hx hb dX4_back_35 rfl (lv_at hl 0 rfl) ?_
      obtain ⟨r7, er7, hf⟩ := ob_s hf
      refine ep_get (C := RX4) (T := TX4) (N := 32) (ci := 4) hx hb hts in_X4 hown hK hw rfl 0 (by decide) q1139 (gR_f er7) dX4_back_36 ?_
      refine lv_bipush (v := iI 55) hx hb dX4_back_39 (by decide) ?_
      obtain ⟨v8, ev8, hf⟩ := ob_s hf
      refine ep_iald hx hb hK hw ev8 dX4_back_41 ?_
      exact ep_retiW hx hb hr hlocks hw hf dX4_back_42
    · have hf := oi_t hf c5
      refine lv_bipush (v := iI (-2)) hx hb dX4_back_21 (by decide) ?_
      exact ep_retiW hx hb hr hlocks hw hf dX4_back_23
  · have hf := oi_t hf c2
    refine lv_iconst (v := iI (-1)) hx hb dX4_back_10 rfl ?_
    exact ep_retiW hx hb hr hlocks hw hf dX4_back_11
