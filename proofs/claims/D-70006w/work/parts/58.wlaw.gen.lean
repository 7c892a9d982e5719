/-! the law's walk (printed by gen.py) -/
set_option maxRecDepth 100000
abbrev wL_law (p : Program) (l : Launch) (e : Env) (s : State) (m : MethodId) (below : List Frame) (meth : Method) (c : Code) (b k9 n9 : Nat) (H : Heap) (locs : List Loc) (g : JFrame) : Prop := W p l e room_1 s m #[Value.ref b] below meth c H locs k9 n9 (lw_Z below #[Value.ref b] s) g
set_option maxHeartbeats 40000000 in
theorem walkL {p : Program} {e : Env} {s : State} {m : MethodId} {below : List Frame} {meth : Method} {c : Code} (l : Launch) (hfl : l.flags = flags0) {b L : Nat} {xs : Nat → Int32} (C0 : lw_At p s m meth c b L xs) (G : EG) (hbase : G.2.2.1 = s.heap.size) (hK : ep_K G ep_cl s) (hZ : ep_Z G s s.heap) {h0 : Hp} (hR : ep_R G ep_cl h0 s.heap) {res : Hp} (hf : fL_law L xs h0 = some (iI 1, res)) : wL_law p l e s m below meth c b 0 0 s.heap [] (entryFrame m ([Value.ref b] : List Value).toArray 4) := by
  obtain ⟨hx, hb, hr, hml, hown, htt, hX, hbl, hlocks, hgv⟩ := C0
  have hts : ∀ w ∈ lw_all, w.before #[Value.ref b] s = true := fun w h => htt w (List.mem_filter.mp h).1
  have hbA : ¬ ep_A G b := by unfold ep_A; rw [hbase]; exact Nat.not_le.mpr hbl
  have hw : ep_W G ep_cl h0 s s.heap [] := ⟨hR, va_S.rf⟩
  have hl := lv_entry ([.ref b]) (n := 4) (Nat.le_of_ble_eq_true rfl)
  rw [lg_entry_eq]
  generalize (lg_sl ([.ref b]) ++ List.replicate (4 - (lg_sl ([.ref b])).length) Slot.unset).toArray = ls at hl ⊢
  have hl : lv_has ls 4 [(0, .ref b)] := hl
  unfold fL_law at hf
  show wL_law p l e s m below meth c b 0 0 s.heap ([]) (F0 m 0 ls [])
  obtain ⟨h1, eh1, hf⟩ := ob_s hf
  refine ep_newH (C := RX0) (T := TX0) (N := 25) (ci := 0) hx hb hts in_X0 tyX0 tyX0_ok hown q876 q568 q85 hK hw rfl (by decide) (Nat.le_of_ble_eq_true rfl) (Nat.le_of_ble_eq_true rfl) eh1 dL_law_0 (fun H locs hw => ?_)
  refine lv_dup hx hb dL_law_3 rfl ?_
  obtain ⟨o2, eo2, hf⟩ := ob_s hf
  refine ep_callv (va_runI (As := []) (rest := [.ref h0.1]) ⟨hx, hb, hml, hown, hts⟩ (metX0_init l G h1 h0.1 eo2) (cwI 0 hts (lw_meth q879) rfl rfl rfl (hts _ q85) (hts _ q877) (hts _ q878) rfl hdX0_init.2 ⟨Nat.le_of_ble_eq_true rfl, Nat.le_of_ble_eq_true rfl⟩) (ep_preS hK hZ hw) rfl rfl hl.1 rfl (lv_room (Nat.le_of_ble_eq_true rfl)) dL_law_4 ⟨Nat.le_of_ble_eq_true rfl, Nat.le_of_ble_eq_true rfl⟩) hw (fun H locs hw => ?_)
  refine lv_astore_n (lv' := [(1, .ref h0.1), (0, .ref b)]) hx hb dL_law_7 rfl hl (by decide) rfl (fun ls hl => ?_)
  obtain ⟨h3, eh3, hf⟩ := ob_s hf
  refine ep_newH (C := RX4) (T := TX4) (N := 32) (ci := 4) hx hb hts in_X4 tyX4 tyX4_ok hown q1125 q1126 q89 hK hw rfl (by decide) (Nat.le_of_ble_eq_true rfl) (Nat.le_of_ble_eq_true rfl) eh3 dL_law_8 (fun H locs hw => ?_)
  refine lv_dup hx hb dL_law_11 rfl ?_
  obtain ⟨o4, eo4, hf⟩ := ob_s hf
  refine ep_callv (va_runI (As := []) (rest := [.ref o2.1]) ⟨hx, hb, hml, hown, hts⟩ (metX4_init l G h3 o2.1 eo4) (cwI 0 hts (lw_meth q1129) rfl rfl rfl (hts _ q89) (hts _ q1127) (hts _ q1128) rfl hdX4_init.2 ⟨Nat.le_of_ble_eq_true rfl, Nat.le_of_ble_eq_true rfl⟩) (ep_preS hK hZ hw) rfl rfl hl.1 rfl (lv_room (Nat.le_of_ble_eq_true rfl)) dL_law_12 ⟨Nat.le_of_ble_eq_true rfl, Nat.le_of_ble_eq_true rfl⟩) hw (fun H locs hw => ?_)
  refine lv_astore_n (lv' := [(2, .ref o2.1), (1, .ref h0.1), (0, .ref b)]) hx hb dL_law_15 rfl hl (by decide) rfl (fun ls hl => ?_)
  refine lv_iconst (v := iI 0) hx hb dL_law_16 rfl ?_
  refine lv_istore_n (lv' := [(3, .int (iI 0)), (2, .ref o2.1), (1, .ref h0.1), (0, .ref b)]) hx hb dL_law_17 rfl hl (by decide) rfl (fun ls hl => ?_)
  obtain ⟨ox5, ho5, hk5⟩ := orL_s hf
  have hT5 : ∀ r, ox5 = .inl r → some r = some (iI 1, res) := fun r eo => (by have e := orL_1 hk5 eo; exact e)
  have hJ5 : ∀ o5, ox5 = .inr o5 → ∀ (H : Heap) (locs : List Loc) (ls : Array Slot), ep_W G ep_cl o5 s H locs → lv_has ls 4 [] → wL_law p l e s m below meth c b 3444 28114 H locs (F0 m 1456 ls []) := by
    intro o5 eo H locs ls hw hl
    have hf := orL_2 hk5 eo
    refine lv_iconst (v := iI 1) hx hb dL_law_1456 rfl ?_
    exact ep_lawEnd hx hb hr hlocks hbase hw (Nat.le_of_ble_eq_true rfl) (Nat.le_of_ble_eq_true rfl) dL_law_1457
  have hL5 : ∀ (fu : Nat) (hfu : fu ≤ 65) (h : Hp) (x3 : Int32), fL_law_L18 L xs h0.1 o2.1 fu h x3 = some ox5 → ∀ (H : Heap) (locs : List Loc) (ls : Array Slot), ep_W G ep_cl h s H locs → lv_has ls 4 [(0, .ref b), (1, .ref h0.1), (2, .ref o2.1), (3, .int x3)] → wL_law p l e s m below meth c b (129 + (65 - fu) * 51) (1789 + (65 - fu) * 405) H locs (F0 m 18 ls []) := by
    intro fu
    induction fu with
    | zero => intro hfu h x3 ho5; cases ho5
    | succ fu ih5 =>
      intro hfu h x3 ho5 H locs ls hw hl
      rw [fL_law_L18] at ho5
      refine lv_iload_n hx hb dL_law_18 rfl (lv_at hl 3 rfl) ?_
      refine lv_aload_n hx hb dL_law_19 rfl (lv_at hl 0 rfl) ?_
      refine va_slen hx hb hX hbl hbA hw.2 dL_law_20 ?_
      refine lv_iconst (v := iI 5) hx hb dL_law_21 rfl ?_
      refine lv_isub hx hb dL_law_22 ?_
      refine lv_icmp_gt (tgt := 1456) hx hb dL_law_23 (by decide) (fun c313 => ?_) (fun c313 => ?_)
      · have ho5 := oi_t ho5 c313
        refine W.widen (k := 3444) (n := 28114) (by omega) (by omega) ?_
        exact hJ5 _ (Option.some.inj ho5).symm _ _ _ hw (lv_sub hl [] rfl)
      · have ho5 := oi_f ho5 c313
        refine lv_aload_n hx hb dL_law_26 rfl (lv_at hl 0 rfl) ?_
        refine lv_iload_n hx hb dL_law_27 rfl (lv_at hl 3 rfl) ?_
        obtain ⟨v314, ev314, ho5⟩ := ob_s ho5
        refine ep_sX hx hb hX hbl hbA hw ev314 dL_law_28 ?_
        refine lv_bipush (v := iI 63) hx hb dL_law_29 (by decide) ?_
        refine lv_iand hx hb dL_law_31 ?_
        obtain ⟨ox315, ho315, hk315⟩ := orL_s ho5
        have hT315 : ∀ r, ox315 = .inl r → some r = some (iI 1, res) := fun r eo => hT5 _ (Option.some.inj (show some (.inl r) = some ox5 from (by have e := orL_1 hk315 eo; exact e))).symm
        have hJ315 : ∀ o315, ox315 = .inr o315 → ∀ (H : Heap) (locs : List Loc) (ls : Array Slot), ep_W G ep_cl o315 s H locs → lv_has ls 4 [(0, .ref b), (1, .ref h0.1), (2, .ref o2.1), (3, .int x3)] → wL_law p l e s m below meth c b (129 + (65 - (fu + 1)) * 51 + 51) (1789 + (65 - (fu + 1)) * 405 + 405) H locs (F0 m 1450 ls []) := by
          intro o315 eo H locs ls hw hl
          have ho5 := orL_2 hk315 eo
          refine lv_iinc (v := (x3 + iI 5)) (lv' := [(3, .int (x3 + iI 5)), (0, .ref b), (1, .ref h0.1), (2, .ref o2.1)]) hx hb dL_law_1450 hl (k := 3) rfl rfl (by decide) rfl (fun ls hl => ?_)
          refine lv_goto (tgt := 18) hx hb dL_law_1453 (by decide) ?_
          refine W.widen (k := 129 + (65 - fu) * 51) (n := 1789 + (65 - fu) * 405) (by omega) (by omega) ?_
          exact ih5 (by omega) _ _ ho5 _ _ _ hw (lv_sub hl [1, 2, 3, 0] rfl)
        by_cases c316 : (v314 &&& (iI 63)) = iI 0
        · have ho315 := oi_t ho315 c316
          refine lv_tableIn (off := 176) (tgt := 208) hx hb dL_law_32 (by rw [ep_swIn c316 (by decide)]; decide) (by rw [ep_swIn c316 (by decide)]; decide) (by rw [ep_swIn c316 (by decide)]; rfl) (by decide) ?_
          refine lv_aload_n hx hb dL_law_208 rfl (lv_at hl 1 rfl) ?_
          refine lv_aload_n hx hb dL_law_209 rfl (lv_at hl 0 rfl) ?_
          refine lv_iload_n hx hb dL_law_210 rfl (lv_at hl 3 rfl) ?_
          refine lv_iconst (v := iI 1) hx hb dL_law_211 rfl ?_
          refine lv_iadd hx hb dL_law_212 ?_
          obtain ⟨v356, ev356, ho315⟩ := ob_s ho315
          refine ep_sX hx hb hX hbl hbA hw ev356 dL_law_213 ?_
          obtain ⟨o357, eo357, ho315⟩ := ob_s ho315
          refine ep_calli0 (va_runV (As := [.int v356]) (rest := []) ⟨hx, hb, hml, hown, hts⟩ (metX0_feed l G h h0.1 v356 eo357) (cwV 1 hts (lw_V q109 q110 q111 q85 q112) rfl rfl rfl hdX0_feed ⟨Nat.le_of_ble_eq_true rfl, Nat.le_of_ble_eq_true rfl⟩) (ep_preV hK hZ hw rfl (ckX0_feed eo357)) rfl rfl hl.1 rfl (lv_room (Nat.le_of_ble_eq_true rfl)) dL_law_214 ⟨by dsimp only [room_1]; omega, by dsimp only [room_1]; omega⟩) hw (fun H locs hw => ?_)
          refine lv_aload_n hx hb dL_law_217 rfl (lv_at hl 2 rfl) ?_
          refine lv_aload_n hx hb dL_law_218 rfl (lv_at hl 0 rfl) ?_
          refine lv_iload_n hx hb dL_law_219 rfl (lv_at hl 3 rfl) ?_
          refine lv_iconst (v := iI 1) hx hb dL_law_220 rfl ?_
          refine lv_iadd hx hb dL_law_221 ?_
          obtain ⟨v358, ev358, ho315⟩ := ob_s ho315
          refine ep_sX hx hb hX hbl hbA hw ev358 dL_law_222 ?_
          obtain ⟨o359, eo359, ho315⟩ := ob_s ho315
          refine ep_calli0 (va_runV (As := [.int v358]) (rest := [.int o357.1]) ⟨hx, hb, hml, hown, hts⟩ (metX4_feed l G o357.2 o2.1 v358 eo359) (cwV 1 hts (lw_V q1237 q1238 q1239 q89 q1240) rfl rfl rfl hdX4_feed ⟨Nat.le_of_ble_eq_true rfl, Nat.le_of_ble_eq_true rfl⟩) (ep_preV hK hZ hw rfl (ckX4_feed eo359)) rfl rfl hl.1 rfl (lv_room (Nat.le_of_ble_eq_true rfl)) dL_law_223 ⟨by dsimp only [room_1]; omega, by dsimp only [room_1]; omega⟩) hw (fun H locs hw => ?_)
          refine lv_icmp_eq (tgt := 1450) hx hb dL_law_226 (by decide) (fun c360 => ?_) (fun c360 => ?_)
          · have ho315 := oi_t ho315 c360
            refine W.widen (k := 129 + (65 - (fu + 1)) * 51 + 51) (n := 1789 + (65 - (fu + 1)) * 405 + 405) (by omega) (by omega) ?_
            exact hJ315 _ (Option.some.inj ho315).symm _ _ _ hw (lv_sub hl [0, 1, 2, 3] rfl)
          · have ho315 := oi_f ho315 c360
            refine lv_iconst (v := iI 0) hx hb dL_law_229 rfl ?_
            exact absurd (congrArg Prod.fst (Option.some.inj (hT315 _ (Option.some.inj ho315).symm))) (show ¬ iI 0 = iI 1 by decide)
        · have ho315 := oi_f ho315 c316
          by_cases c317 : (v314 &&& (iI 63)) = iI 1
          · have ho315 := oi_t ho315 c317
            refine lv_tableIn (off := 199) (tgt := 231) hx hb dL_law_32 (by rw [ep_swIn c317 (by decide)]; decide) (by rw [ep_swIn c317 (by decide)]; decide) (by rw [ep_swIn c317 (by decide)]; rfl) (by decide) ?_
            refine lv_aload_n hx hb dL_law_231 rfl (lv_at hl 1 rfl) ?_
            refine lv_aload_n hx hb dL_law_232 rfl (lv_at hl 0 rfl) ?_
            refine lv_iload_n hx hb dL_law_233 rfl (lv_at hl 3 rfl) ?_
            refine lv_iconst (v := iI 1) hx hb dL_law_234 rfl ?_
            refine lv_iadd hx hb dL_law_235 ?_
            obtain ⟨v361, ev361, ho315⟩ := ob_s ho315
            refine ep_sX hx hb hX hbl hbA hw ev361 dL_law_236 ?_
            obtain ⟨o362, eo362, ho315⟩ := ob_s ho315
            refine ep_calli0 (va_runV (As := [.int v361]) (rest := []) ⟨hx, hb, hml, hown, hts⟩ (metX0_end l G h h0.1 v361 eo362) (cwV 1 hts (lw_V q117 q118 q119 q85 q120) rfl rfl rfl hdX0_end ⟨Nat.le_of_ble_eq_true rfl, Nat.le_of_ble_eq_true rfl⟩) (ep_preV hK hZ hw rfl (ckX0_end eo362)) rfl rfl hl.1 rfl (lv_room (Nat.le_of_ble_eq_true rfl)) dL_law_237 ⟨by dsimp only [room_1]; omega, by dsimp only [room_1]; omega⟩) hw (fun H locs hw => ?_)
            refine lv_aload_n hx hb dL_law_240 rfl (lv_at hl 2 rfl) ?_
            refine lv_aload_n hx hb dL_law_241 rfl (lv_at hl 0 rfl) ?_
            refine lv_iload_n hx hb dL_law_242 rfl (lv_at hl 3 rfl) ?_
            refine lv_iconst (v := iI 1) hx hb dL_law_243 rfl ?_
            refine lv_iadd hx hb dL_law_244 ?_
            obtain ⟨v363, ev363, ho315⟩ := ob_s ho315
            refine ep_sX hx hb hX hbl hbA hw ev363 dL_law_245 ?_
            obtain ⟨o364, eo364, ho315⟩ := ob_s ho315
            refine ep_calli0 (va_runV (As := [.int v363]) (rest := [.int o362.1]) ⟨hx, hb, hml, hown, hts⟩ (metX4_end l G o362.2 o2.1 v363 eo364) (cwV 1 hts (lw_V q1245 q1246 q1247 q89 q1248) rfl rfl rfl hdX4_end ⟨Nat.le_of_ble_eq_true rfl, Nat.le_of_ble_eq_true rfl⟩) (ep_preV hK hZ hw rfl (ckX4_end eo364)) rfl rfl hl.1 rfl (lv_room (Nat.le_of_ble_eq_true rfl)) dL_law_246 ⟨by dsimp only [room_1]; omega, by dsimp only [room_1]; omega⟩) hw (fun H locs hw => ?_)
            refine lv_icmp_eq (tgt := 1450) hx hb dL_law_249 (by decide) (fun c365 => ?_) (fun c365 => ?_)
            · have ho315 := oi_t ho315 c365
              refine W.widen (k := 129 + (65 - (fu + 1)) * 51 + 51) (n := 1789 + (65 - (fu + 1)) * 405 + 405) (by omega) (by omega) ?_
              exact hJ315 _ (Option.some.inj ho315).symm _ _ _ hw (lv_sub hl [0, 1, 2, 3] rfl)
            · have ho315 := oi_f ho315 c365
              refine lv_iconst (v := iI 0) hx hb dL_law_252 rfl ?_
              exact absurd (congrArg Prod.fst (Option.some.inj (hT315 _ (Option.some.inj ho315).symm))) (show ¬ iI 0 = iI 1 by decide)
          · have ho315 := oi_f ho315 c317
            by_cases c318 : (v314 &&& (iI 63)) = iI 2
            · have ho315 := oi_t ho315 c318
              refine lv_tableIn (off := 222) (tgt := 254) hx hb dL_law_32 (by rw [ep_swIn c318 (by decide)]; decide) (by rw [ep_swIn c318 (by decide)]; decide) (by rw [ep_swIn c318 (by decide)]; rfl) (by decide) ?_
              refine lv_aload_n hx hb dL_law_254 rfl (lv_at hl 1 rfl) ?_
              obtain ⟨o366, eo366, ho315⟩ := ob_s ho315
              refine ep_calli (ep_runVW (As := []) (rest := []) ⟨hx, hb, hml, hown, hts⟩ (metX0_text l G h h0.1 eo366) rfl rfl ⟨Nat.le_of_ble_eq_true rfl, Nat.le_of_ble_eq_true rfl⟩ q121 q122 q123 q85 q124 hdX0_text.2 (ep_preV hK hZ hw rfl (ckX0_text eo366)) rfl rfl hl.1 rfl (lv_room (Nat.le_of_ble_eq_true rfl)) dL_law_255 ⟨by dsimp only [room_1]; omega, by dsimp only [room_1]; omega⟩) hw (fun H locs hw => ?_)
              refine lv_aload_n hx hb dL_law_258 rfl (lv_at hl 2 rfl) ?_
              obtain ⟨o367, eo367, ho315⟩ := ob_s ho315
              refine ep_calli0 (va_runV (As := []) (rest := [.int o366.1]) ⟨hx, hb, hml, hown, hts⟩ (metX4_text l G o366.2 o2.1 eo367) (cwV 0 hts (lw_V q1249 q1250 q1251 q89 q1252) rfl rfl rfl hdX4_text ⟨Nat.le_of_ble_eq_true rfl, Nat.le_of_ble_eq_true rfl⟩) (ep_preV hK hZ hw rfl (ckX4_text eo367)) rfl rfl hl.1 rfl (lv_room (Nat.le_of_ble_eq_true rfl)) dL_law_259 ⟨by dsimp only [room_1]; omega, by dsimp only [room_1]; omega⟩) hw (fun H locs hw => ?_)
              refine lv_icmp_eq (tgt := 1450) hx hb dL_law_262 (by decide) (fun c368 => ?_) (fun c368 => ?_)
              · have ho315 := oi_t ho315 c368
                exact hJ315 _ (Option.some.inj ho315).symm _ _ _ hw (lv_sub hl [0, 1, 2, 3] rfl)
              · have ho315 := oi_f ho315 c368
                refine lv_iconst (v := iI 0) hx hb dL_law_265 rfl ?_
                exact absurd (congrArg Prod.fst (Option.some.inj (hT315 _ (Option.some.inj ho315).symm))) (show ¬ iI 0 = iI 1 by decide)
            · have ho315 := oi_f ho315 c318
              by_cases c319 : (v314 &&& (iI 63)) = iI 3
              · have ho315 := oi_t ho315 c319
                refine lv_tableIn (off := 235) (tgt := 267) hx hb dL_law_32 (by rw [ep_swIn c319 (by decide)]; decide) (by rw [ep_swIn c319 (by decide)]; decide) (by rw [ep_swIn c319 (by decide)]; rfl) (by decide) ?_
                refine lv_aload_n hx hb dL_law_267 rfl (lv_at hl 1 rfl) ?_
                obtain ⟨v369, ev369, ho315⟩ := ob_s ho315
                refine ep_calli0 (va_runV (As := []) (rest := []) ⟨hx, hb, hml, hown, hts⟩ (metX0_fault l G h h0.1 ev369) (cwV 0 hts (lw_V q540 q541 q542 q85 q543) rfl rfl rfl hdX0_fault ⟨Nat.le_of_ble_eq_true rfl, Nat.le_of_ble_eq_true rfl⟩) (ep_preV hK hZ hw rfl (ckX0_fault ev369)) rfl rfl hl.1 rfl (lv_room (Nat.le_of_ble_eq_true rfl)) dL_law_268 ⟨by dsimp only [room_1]; omega, by dsimp only [room_1]; omega⟩) hw (fun H locs hw => ?_)
                refine lv_aload_n hx hb dL_law_271 rfl (lv_at hl 2 rfl) ?_
                obtain ⟨v370, ev370, ho315⟩ := ob_s ho315
                refine ep_calli0 (va_runV (As := []) (rest := [.int v369]) ⟨hx, hb, hml, hown, hts⟩ (metX4_fault l G h o2.1 ev370) (cwV 0 hts (lw_V q1311 q1312 q1313 q89 q1314) rfl rfl rfl hdX4_fault ⟨Nat.le_of_ble_eq_true rfl, Nat.le_of_ble_eq_true rfl⟩) (ep_preV hK hZ hw rfl (ckX4_fault ev370)) rfl rfl hl.1 rfl (lv_room (Nat.le_of_ble_eq_true rfl)) dL_law_272 ⟨by dsimp only [room_1]; omega, by dsimp only [room_1]; omega⟩) hw (fun H locs hw => ?_)
                refine lv_icmp_eq (tgt := 1450) hx hb dL_law_275 (by decide) (fun c371 => ?_) (fun c371 => ?_)
                · have ho315 := oi_t ho315 c371
                  refine W.widen (k := 129 + (65 - (fu + 1)) * 51 + 51) (n := 1789 + (65 - (fu + 1)) * 405 + 405) (by omega) (by omega) ?_
                  exact hJ315 _ (Option.some.inj ho315).symm _ _ _ hw (lv_sub hl [0, 1, 2, 3] rfl)
                · have ho315 := oi_f ho315 c371
                  refine lv_iconst (v := iI 0) hx hb dL_law_278 rfl ?_
                  exact absurd (congrArg Prod.fst (Option.some.inj (hT315 _ (Option.some.inj ho315).symm))) (show ¬ iI 0 = iI 1 by decide)
              · have ho315 := oi_f ho315 c319
                by_cases c320 : (v314 &&& (iI 63)) = iI 4
                · have ho315 := oi_t ho315 c320
                  refine lv_tableIn (off := 248) (tgt := 280) hx hb dL_law_32 (by rw [ep_swIn c320 (by decide)]; decide) (by rw [ep_swIn c320 (by decide)]; decide) (by rw [ep_swIn c320 (by decide)]; rfl) (by decide) ?_
                  refine lv_aload_n hx hb dL_law_280 rfl (lv_at hl 1 rfl) ?_
                  refine lv_aload_n hx hb dL_law_281 rfl (lv_at hl 0 rfl) ?_
                  refine lv_iload_n hx hb dL_law_282 rfl (lv_at hl 3 rfl) ?_
                  refine lv_iconst (v := iI 1) hx hb dL_law_283 rfl ?_
                  refine lv_iadd hx hb dL_law_284 ?_
                  obtain ⟨v372, ev372, ho315⟩ := ob_s ho315
                  refine ep_sX hx hb hX hbl hbA hw ev372 dL_law_285 ?_
                  obtain ⟨v373, ev373, ho315⟩ := ob_s ho315
                  refine ep_calli0 (va_runV (As := [.int v372]) (rest := []) ⟨hx, hb, hml, hown, hts⟩ (metX0_rule l G h h0.1 v372 ev373) (cwV 1 hts (lw_V q544 q545 q546 q85 q547) rfl rfl rfl hdX0_rule ⟨Nat.le_of_ble_eq_true rfl, Nat.le_of_ble_eq_true rfl⟩) (ep_preV hK hZ hw rfl (ckX0_rule ev373)) rfl rfl hl.1 rfl (lv_room (Nat.le_of_ble_eq_true rfl)) dL_law_286 ⟨by dsimp only [room_1]; omega, by dsimp only [room_1]; omega⟩) hw (fun H locs hw => ?_)
                  refine lv_aload_n hx hb dL_law_289 rfl (lv_at hl 2 rfl) ?_
                  refine lv_aload_n hx hb dL_law_290 rfl (lv_at hl 0 rfl) ?_
                  refine lv_iload_n hx hb dL_law_291 rfl (lv_at hl 3 rfl) ?_
                  refine lv_iconst (v := iI 1) hx hb dL_law_292 rfl ?_
                  refine lv_iadd hx hb dL_law_293 ?_
                  obtain ⟨v374, ev374, ho315⟩ := ob_s ho315
                  refine ep_sX hx hb hX hbl hbA hw ev374 dL_law_294 ?_
                  obtain ⟨o375, eo375, ho315⟩ := ob_s ho315
                  refine ep_calli0 (va_runV (As := [.int v374]) (rest := [.int v373]) ⟨hx, hb, hml, hown, hts⟩ (metX4_rule l G h o2.1 v374 eo375) (cwV 1 hts (lw_V q1315 q1316 q1317 q89 q1318) rfl rfl rfl hdX4_rule ⟨Nat.le_of_ble_eq_true rfl, Nat.le_of_ble_eq_true rfl⟩) (ep_preV hK hZ hw rfl (ckX4_rule eo375)) rfl rfl hl.1 rfl (lv_room (Nat.le_of_ble_eq_true rfl)) dL_law_295 ⟨by dsimp only [room_1]; omega, by dsimp only [room_1]; omega⟩) hw (fun H locs hw => ?_)
                  refine lv_icmp_eq (tgt := 1450) hx hb dL_law_298 (by decide) (fun c376 => ?_) (fun c376 => ?_)
                  · have ho315 := oi_t ho315 c376
                    refine W.widen (k := 129 + (65 - (fu + 1)) * 51 + 51) (n := 1789 + (65 - (fu + 1)) * 405 + 405) (by omega) (by omega) ?_
                    exact hJ315 _ (Option.some.inj ho315).symm _ _ _ hw (lv_sub hl [0, 1, 2, 3] rfl)
                  · have ho315 := oi_f ho315 c376
                    refine lv_iconst (v := iI 0) hx hb dL_law_301 rfl ?_
                    exact absurd (congrArg Prod.fst (Option.some.inj (hT315 _ (Option.some.inj ho315).symm))) (show ¬ iI 0 = iI 1 by decide)
                · have ho315 := oi_f ho315 c320
                  by_cases c321 : (v314 &&& (iI 63)) = iI 5
                  · have ho315 := oi_t ho315 c321
                    refine lv_tableIn (off := 271) (tgt := 303) hx hb dL_law_32 (by rw [ep_swIn c321 (by decide)]; decide) (by rw [ep_swIn c321 (by decide)]; decide) (by rw [ep_swIn c321 (by decide)]; rfl) (by decide) ?_
                    refine lv_aload_n hx hb dL_law_303 rfl (lv_at hl 1 rfl) ?_
                    refine lv_aload_n hx hb dL_law_304 rfl (lv_at hl 0 rfl) ?_
                    refine lv_iload_n hx hb dL_law_305 rfl (lv_at hl 3 rfl) ?_
                    refine lv_iconst (v := iI 1) hx hb dL_law_306 rfl ?_
                    refine lv_iadd hx hb dL_law_307 ?_
                    obtain ⟨v377, ev377, ho315⟩ := ob_s ho315
                    refine ep_sX hx hb hX hbl hbA hw ev377 dL_law_308 ?_
                    refine lv_aload_n hx hb dL_law_309 rfl (lv_at hl 0 rfl) ?_
                    refine lv_iload_n hx hb dL_law_310 rfl (lv_at hl 3 rfl) ?_
                    refine lv_iconst (v := iI 2) hx hb dL_law_311 rfl ?_
                    refine lv_iadd hx hb dL_law_312 ?_
                    obtain ⟨v378, ev378, ho315⟩ := ob_s ho315
                    refine ep_sX hx hb hX hbl hbA hw ev378 dL_law_313 ?_
                    obtain ⟨v379, ev379, ho315⟩ := ob_s ho315
                    refine ep_calli0 (va_runV (As := [.int v377, .int v378]) (rest := []) ⟨hx, hb, hml, hown, hts⟩ (metX0_pen l G h h0.1 v377 v378 ev379) (cwV 2 hts (lw_V q561 q562 q563 q85 q564) rfl rfl rfl hdX0_pen ⟨Nat.le_of_ble_eq_true rfl, Nat.le_of_ble_eq_true rfl⟩) (ep_preV hK hZ hw rfl (ckX0_pen ev379)) rfl rfl hl.1 rfl (lv_room (Nat.le_of_ble_eq_true rfl)) dL_law_314 ⟨by dsimp only [room_1]; omega, by dsimp only [room_1]; omega⟩) hw (fun H locs hw => ?_)
                    refine lv_aload_n hx hb dL_law_317 rfl (lv_at hl 2 rfl) ?_
                    refine lv_aload_n hx hb dL_law_318 rfl (lv_at hl 0 rfl) ?_
                    refine lv_iload_n hx hb dL_law_319 rfl (lv_at hl 3 rfl) ?_
                    refine lv_iconst (v := iI 1) hx hb dL_law_320 rfl ?_
                    refine lv_iadd hx hb dL_law_321 ?_
                    obtain ⟨v380, ev380, ho315⟩ := ob_s ho315
                    refine ep_sX hx hb hX hbl hbA hw ev380 dL_law_322 ?_
                    refine lv_aload_n hx hb dL_law_323 rfl (lv_at hl 0 rfl) ?_
                    refine lv_iload_n hx hb dL_law_324 rfl (lv_at hl 3 rfl) ?_
                    refine lv_iconst (v := iI 2) hx hb dL_law_325 rfl ?_
                    refine lv_iadd hx hb dL_law_326 ?_
                    obtain ⟨v381, ev381, ho315⟩ := ob_s ho315
                    refine ep_sX hx hb hX hbl hbA hw ev381 dL_law_327 ?_
                    obtain ⟨o382, eo382, ho315⟩ := ob_s ho315
                    refine ep_calli0 (va_runV (As := [.int v380, .int v381]) (rest := [.int v379]) ⟨hx, hb, hml, hown, hts⟩ (metX4_pen l G h o2.1 v380 v381 eo382) (cwV 2 hts (lw_V q1339 q1340 q1341 q89 q1342) rfl rfl rfl hdX4_pen ⟨Nat.le_of_ble_eq_true rfl, Nat.le_of_ble_eq_true rfl⟩) (ep_preV hK hZ hw rfl (ckX4_pen eo382)) rfl rfl hl.1 rfl (lv_room (Nat.le_of_ble_eq_true rfl)) dL_law_328 ⟨by dsimp only [room_1]; omega, by dsimp only [room_1]; omega⟩) hw (fun H locs hw => ?_)
                    refine lv_icmp_eq (tgt := 1450) hx hb dL_law_331 (by decide) (fun c383 => ?_) (fun c383 => ?_)
                    · have ho315 := oi_t ho315 c383
                      refine W.widen (k := 129 + (65 - (fu + 1)) * 51 + 51) (n := 1789 + (65 - (fu + 1)) * 405 + 405) (by omega) (by omega) ?_
                      exact hJ315 _ (Option.some.inj ho315).symm _ _ _ hw (lv_sub hl [0, 1, 2, 3] rfl)
                    · have ho315 := oi_f ho315 c383
                      refine lv_iconst (v := iI 0) hx hb dL_law_334 rfl ?_
                      exact absurd (congrArg Prod.fst (Option.some.inj (hT315 _ (Option.some.inj ho315).symm))) (show ¬ iI 0 = iI 1 by decide)
                  · have ho315 := oi_f ho315 c321
                    by_cases c322 : (v314 &&& (iI 63)) = iI 6
                    · have ho315 := oi_t ho315 c322
                      refine lv_tableIn (off := 304) (tgt := 336) hx hb dL_law_32 (by rw [ep_swIn c322 (by decide)]; decide) (by rw [ep_swIn c322 (by decide)]; decide) (by rw [ep_swIn c322 (by decide)]; rfl) (by decide) ?_
                      refine lv_aload_n hx hb dL_law_336 rfl (lv_at hl 1 rfl) ?_
                      refine lv_aload_n hx hb dL_law_337 rfl (lv_at hl 0 rfl) ?_
                      refine lv_iload_n hx hb dL_law_338 rfl (lv_at hl 3 rfl) ?_
                      refine lv_iconst (v := iI 1) hx hb dL_law_339 rfl ?_
                      refine lv_iadd hx hb dL_law_340 ?_
                      obtain ⟨v384, ev384, ho315⟩ := ob_s ho315
                      refine ep_sX hx hb hX hbl hbA hw ev384 dL_law_341 ?_
                      refine lv_aload_n hx hb dL_law_342 rfl (lv_at hl 0 rfl) ?_
                      refine lv_iload_n hx hb dL_law_343 rfl (lv_at hl 3 rfl) ?_
                      refine lv_iconst (v := iI 2) hx hb dL_law_344 rfl ?_
                      refine lv_iadd hx hb dL_law_345 ?_
                      obtain ⟨v385, ev385, ho315⟩ := ob_s ho315
                      refine ep_sX hx hb hX hbl hbA hw ev385 dL_law_346 ?_
                      obtain ⟨v386, ev386, ho315⟩ := ob_s ho315
                      refine ep_calli0 (va_runV (As := [.int v384, .int v385]) (rest := []) ⟨hx, hb, hml, hown, hts⟩ (metX0_echo l G h h0.1 v384 v385 ev386) (cwV 2 hts (lw_V q571 q572 q573 q85 q574) rfl rfl rfl hdX0_echo ⟨Nat.le_of_ble_eq_true rfl, Nat.le_of_ble_eq_true rfl⟩) (ep_preV hK hZ hw rfl (ckX0_echo ev386)) rfl rfl hl.1 rfl (lv_room (Nat.le_of_ble_eq_true rfl)) dL_law_347 ⟨by dsimp only [room_1]; omega, by dsimp only [room_1]; omega⟩) hw (fun H locs hw => ?_)
                      refine lv_aload_n hx hb dL_law_350 rfl (lv_at hl 2 rfl) ?_
                      refine lv_aload_n hx hb dL_law_351 rfl (lv_at hl 0 rfl) ?_
                      refine lv_iload_n hx hb dL_law_352 rfl (lv_at hl 3 rfl) ?_
                      refine lv_iconst (v := iI 1) hx hb dL_law_353 rfl ?_
                      refine lv_iadd hx hb dL_law_354 ?_
                      obtain ⟨v387, ev387, ho315⟩ := ob_s ho315
                      refine ep_sX hx hb hX hbl hbA hw ev387 dL_law_355 ?_
                      refine lv_aload_n hx hb dL_law_356 rfl (lv_at hl 0 rfl) ?_
                      refine lv_iload_n hx hb dL_law_357 rfl (lv_at hl 3 rfl) ?_
                      refine lv_iconst (v := iI 2) hx hb dL_law_358 rfl ?_
                      refine lv_iadd hx hb dL_law_359 ?_
                      obtain ⟨v388, ev388, ho315⟩ := ob_s ho315
                      refine ep_sX hx hb hX hbl hbA hw ev388 dL_law_360 ?_
                      obtain ⟨o389, eo389, ho315⟩ := ob_s ho315
                      refine ep_calli0 (va_runV (As := [.int v387, .int v388]) (rest := [.int v386]) ⟨hx, hb, hml, hown, hts⟩ (metX4_echo l G h o2.1 v387 v388 eo389) (cwV 2 hts (lw_V q1348 q1349 q1350 q89 q1351) rfl rfl rfl hdX4_echo ⟨Nat.le_of_ble_eq_true rfl, Nat.le_of_ble_eq_true rfl⟩) (ep_preV hK hZ hw rfl (ckX4_echo eo389)) rfl rfl hl.1 rfl (lv_room (Nat.le_of_ble_eq_true rfl)) dL_law_361 ⟨by dsimp only [room_1]; omega, by dsimp only [room_1]; omega⟩) hw (fun H locs hw => ?_)
                      refine lv_icmp_eq (tgt := 1450) hx hb dL_law_364 (by decide) (fun c390 => ?_) (fun c390 => ?_)
                      · have ho315 := oi_t ho315 c390
                        refine W.widen (k := 129 + (65 - (fu + 1)) * 51 + 51) (n := 1789 + (65 - (fu + 1)) * 405 + 405) (by omega) (by omega) ?_
                        exact hJ315 _ (Option.some.inj ho315).symm _ _ _ hw (lv_sub hl [0, 1, 2, 3] rfl)
                      · have ho315 := oi_f ho315 c390
                        refine lv_iconst (v := iI 0) hx hb dL_law_367 rfl ?_
                        exact absurd (congrArg Prod.fst (Option.some.inj (hT315 _ (Option.some.inj ho315).symm))) (show ¬ iI 0 = iI 1 by decide)
                    · have ho315 := oi_f ho315 c322
                      by_cases c323 : (v314 &&& (iI 63)) = iI 7
                      · have ho315 := oi_t ho315 c323
                        refine lv_tableIn (off := 337) (tgt := 369) hx hb dL_law_32 (by rw [ep_swIn c323 (by decide)]; decide) (by rw [ep_swIn c323 (by decide)]; decide) (by rw [ep_swIn c323 (by decide)]; rfl) (by decide) ?_
                        refine lv_aload_n hx hb dL_law_369 rfl (lv_at hl 1 rfl) ?_
                        refine lv_aload_n hx hb dL_law_370 rfl (lv_at hl 0 rfl) ?_
                        refine lv_iload_n hx hb dL_law_371 rfl (lv_at hl 3 rfl) ?_
                        refine lv_iconst (v := iI 1) hx hb dL_law_372 rfl ?_
                        refine lv_iadd hx hb dL_law_373 ?_
                        obtain ⟨v391, ev391, ho315⟩ := ob_s ho315
                        refine ep_sX hx hb hX hbl hbA hw ev391 dL_law_374 ?_
                        refine lv_aload_n hx hb dL_law_375 rfl (lv_at hl 0 rfl) ?_
                        refine lv_iload_n hx hb dL_law_376 rfl (lv_at hl 3 rfl) ?_
                        refine lv_iconst (v := iI 2) hx hb dL_law_377 rfl ?_
                        refine lv_iadd hx hb dL_law_378 ?_
                        obtain ⟨v392, ev392, ho315⟩ := ob_s ho315
                        refine ep_sX hx hb hX hbl hbA hw ev392 dL_law_379 ?_
                        obtain ⟨v393, ev393, ho315⟩ := ob_s ho315
                        refine ep_calli0 (va_runV (As := [.int v391, .int v392]) (rest := []) ⟨hx, hb, hml, hown, hts⟩ (metX0_letter l G h h0.1 v391 v392 ev393) (cwV 2 hts (lw_V q609 q610 q611 q85 q612) rfl rfl rfl hdX0_letter ⟨Nat.le_of_ble_eq_true rfl, Nat.le_of_ble_eq_true rfl⟩) (ep_preV hK hZ hw rfl (ckX0_letter ev393)) rfl rfl hl.1 rfl (lv_room (Nat.le_of_ble_eq_true rfl)) dL_law_380 ⟨by dsimp only [room_1]; omega, by dsimp only [room_1]; omega⟩) hw (fun H locs hw => ?_)
                        refine lv_aload_n hx hb dL_law_383 rfl (lv_at hl 2 rfl) ?_
                        refine lv_aload_n hx hb dL_law_384 rfl (lv_at hl 0 rfl) ?_
                        refine lv_iload_n hx hb dL_law_385 rfl (lv_at hl 3 rfl) ?_
                        refine lv_iconst (v := iI 1) hx hb dL_law_386 rfl ?_
                        refine lv_iadd hx hb dL_law_387 ?_
                        obtain ⟨v394, ev394, ho315⟩ := ob_s ho315
                        refine ep_sX hx hb hX hbl hbA hw ev394 dL_law_388 ?_
                        refine lv_aload_n hx hb dL_law_389 rfl (lv_at hl 0 rfl) ?_
                        refine lv_iload_n hx hb dL_law_390 rfl (lv_at hl 3 rfl) ?_
                        refine lv_iconst (v := iI 2) hx hb dL_law_391 rfl ?_
                        refine lv_iadd hx hb dL_law_392 ?_
                        obtain ⟨v395, ev395, ho315⟩ := ob_s ho315
                        refine ep_sX hx hb hX hbl hbA hw ev395 dL_law_393 ?_
                        obtain ⟨o396, eo396, ho315⟩ := ob_s ho315
                        refine ep_calli0 (va_runV (As := [.int v394, .int v395]) (rest := [.int v393]) ⟨hx, hb, hml, hown, hts⟩ (metX4_letter l G h o2.1 v394 v395 eo396) (cwV 2 hts (lw_V q1372 q1373 q1374 q89 q1375) rfl rfl rfl hdX4_letter ⟨Nat.le_of_ble_eq_true rfl, Nat.le_of_ble_eq_true rfl⟩) (ep_preV hK hZ hw rfl (ckX4_letter eo396)) rfl rfl hl.1 rfl (lv_room (Nat.le_of_ble_eq_true rfl)) dL_law_394 ⟨by dsimp only [room_1]; omega, by dsimp only [room_1]; omega⟩) hw (fun H locs hw => ?_)
                        refine lv_icmp_eq (tgt := 1450) hx hb dL_law_397 (by decide) (fun c397 => ?_) (fun c397 => ?_)
                        · have ho315 := oi_t ho315 c397
                          refine W.widen (k := 129 + (65 - (fu + 1)) * 51 + 51) (n := 1789 + (65 - (fu + 1)) * 405 + 405) (by omega) (by omega) ?_
                          exact hJ315 _ (Option.some.inj ho315).symm _ _ _ hw (lv_sub hl [0, 1, 2, 3] rfl)
                        · have ho315 := oi_f ho315 c397
                          refine lv_iconst (v := iI 0) hx hb dL_law_400 rfl ?_
                          exact absurd (congrArg Prod.fst (Option.some.inj (hT315 _ (Option.some.inj ho315).symm))) (show ¬ iI 0 = iI 1 by decide)
                      · have ho315 := oi_f ho315 c323
                        by_cases c324 : (v314 &&& (iI 63)) = iI 8
                        · have ho315 := oi_t ho315 c324
                          refine lv_tableIn (off := 370) (tgt := 402) hx hb dL_law_32 (by rw [ep_swIn c324 (by decide)]; decide) (by rw [ep_swIn c324 (by decide)]; decide) (by rw [ep_swIn c324 (by decide)]; rfl) (by decide) ?_
                          refine lv_aload_n hx hb dL_law_402 rfl (lv_at hl 1 rfl) ?_
                          refine lv_aload_n hx hb dL_law_403 rfl (lv_at hl 0 rfl) ?_
                          refine lv_iload_n hx hb dL_law_404 rfl (lv_at hl 3 rfl) ?_
                          refine lv_iconst (v := iI 1) hx hb dL_law_405 rfl ?_
                          refine lv_iadd hx hb dL_law_406 ?_
                          obtain ⟨v398, ev398, ho315⟩ := ob_s ho315
                          refine ep_sX hx hb hX hbl hbA hw ev398 dL_law_407 ?_
                          refine lv_aload_n hx hb dL_law_408 rfl (lv_at hl 0 rfl) ?_
                          refine lv_iload_n hx hb dL_law_409 rfl (lv_at hl 3 rfl) ?_
                          refine lv_iconst (v := iI 2) hx hb dL_law_410 rfl ?_
                          refine lv_iadd hx hb dL_law_411 ?_
                          obtain ⟨v399, ev399, ho315⟩ := ob_s ho315
                          refine ep_sX hx hb hX hbl hbA hw ev399 dL_law_412 ?_
                          obtain ⟨v400, ev400, ho315⟩ := ob_s ho315
                          refine ep_calli0 (va_runV (As := [.int v398, .int v399]) (rest := []) ⟨hx, hb, hml, hown, hts⟩ (metX0_order l G h h0.1 v398 v399 ev400) (cwV 2 hts (lw_V q613 q614 q615 q85 q616) rfl rfl rfl hdX0_order ⟨Nat.le_of_ble_eq_true rfl, Nat.le_of_ble_eq_true rfl⟩) (ep_preV hK hZ hw rfl (ckX0_order ev400)) rfl rfl hl.1 rfl (lv_room (Nat.le_of_ble_eq_true rfl)) dL_law_413 ⟨by dsimp only [room_1]; omega, by dsimp only [room_1]; omega⟩) hw (fun H locs hw => ?_)
                          refine lv_aload_n hx hb dL_law_416 rfl (lv_at hl 2 rfl) ?_
                          refine lv_aload_n hx hb dL_law_417 rfl (lv_at hl 0 rfl) ?_
                          refine lv_iload_n hx hb dL_law_418 rfl (lv_at hl 3 rfl) ?_
                          refine lv_iconst (v := iI 1) hx hb dL_law_419 rfl ?_
                          refine lv_iadd hx hb dL_law_420 ?_
                          obtain ⟨v401, ev401, ho315⟩ := ob_s ho315
                          refine ep_sX hx hb hX hbl hbA hw ev401 dL_law_421 ?_
                          refine lv_aload_n hx hb dL_law_422 rfl (lv_at hl 0 rfl) ?_
                          refine lv_iload_n hx hb dL_law_423 rfl (lv_at hl 3 rfl) ?_
                          refine lv_iconst (v := iI 2) hx hb dL_law_424 rfl ?_
                          refine lv_iadd hx hb dL_law_425 ?_
                          obtain ⟨v402, ev402, ho315⟩ := ob_s ho315
                          refine ep_sX hx hb hX hbl hbA hw ev402 dL_law_426 ?_
                          obtain ⟨v403, ev403, ho315⟩ := ob_s ho315
                          refine ep_calli0 (va_runV (As := [.int v401, .int v402]) (rest := [.int v400]) ⟨hx, hb, hml, hown, hts⟩ (metX4_order l G h o2.1 v401 v402 ev403) (cwV 2 hts (lw_V q1376 q1377 q1378 q89 q1379) rfl rfl rfl hdX4_order ⟨Nat.le_of_ble_eq_true rfl, Nat.le_of_ble_eq_true rfl⟩) (ep_preV hK hZ hw rfl (ckX4_order ev403)) rfl rfl hl.1 rfl (lv_room (Nat.le_of_ble_eq_true rfl)) dL_law_427 ⟨by dsimp only [room_1]; omega, by dsimp only [room_1]; omega⟩) hw (fun H locs hw => ?_)
                          refine lv_icmp_eq (tgt := 1450) hx hb dL_law_430 (by decide) (fun c404 => ?_) (fun c404 => ?_)
                          · have ho315 := oi_t ho315 c404
                            refine W.widen (k := 129 + (65 - (fu + 1)) * 51 + 51) (n := 1789 + (65 - (fu + 1)) * 405 + 405) (by omega) (by omega) ?_
                            exact hJ315 _ (Option.some.inj ho315).symm _ _ _ hw (lv_sub hl [0, 1, 2, 3] rfl)
                          · have ho315 := oi_f ho315 c404
                            refine lv_iconst (v := iI 0) hx hb dL_law_433 rfl ?_
                            exact absurd (congrArg Prod.fst (Option.some.inj (hT315 _ (Option.some.inj ho315).symm))) (show ¬ iI 0 = iI 1 by decide)
                        · have ho315 := oi_f ho315 c324
                          by_cases c325 : (v314 &&& (iI 63)) = iI 9
                          · have ho315 := oi_t ho315 c325
                            refine lv_tableIn (off := 403) (tgt := 435) hx hb dL_law_32 (by rw [ep_swIn c325 (by decide)]; decide) (by rw [ep_swIn c325 (by decide)]; decide) (by rw [ep_swIn c325 (by decide)]; rfl) (by decide) ?_
                            refine lv_aload_n hx hb dL_law_435 rfl (lv_at hl 1 rfl) ?_
                            refine lv_aload_n hx hb dL_law_436 rfl (lv_at hl 0 rfl) ?_
                            refine lv_iload_n hx hb dL_law_437 rfl (lv_at hl 3 rfl) ?_
                            refine lv_iconst (v := iI 1) hx hb dL_law_438 rfl ?_
                            refine lv_iadd hx hb dL_law_439 ?_
                            obtain ⟨v405, ev405, ho315⟩ := ob_s ho315
                            refine ep_sX hx hb hX hbl hbA hw ev405 dL_law_440 ?_
                            refine lv_aload_n hx hb dL_law_441 rfl (lv_at hl 0 rfl) ?_
                            refine lv_iload_n hx hb dL_law_442 rfl (lv_at hl 3 rfl) ?_
                            refine lv_iconst (v := iI 2) hx hb dL_law_443 rfl ?_
                            refine lv_iadd hx hb dL_law_444 ?_
                            obtain ⟨v406, ev406, ho315⟩ := ob_s ho315
                            refine ep_sX hx hb hX hbl hbA hw ev406 dL_law_445 ?_
                            obtain ⟨o407, eo407, ho315⟩ := ob_s ho315
                            refine ep_calli0 (va_runV (As := [.int v405, .int v406]) (rest := []) ⟨hx, hb, hml, hown, hts⟩ (metX0_drive l G h h0.1 v405 v406 eo407) (cwV 2 hts (lw_V q622 q623 q624 q85 q625) rfl rfl rfl hdX0_drive ⟨Nat.le_of_ble_eq_true rfl, Nat.le_of_ble_eq_true rfl⟩) (ep_preV hK hZ hw rfl (ckX0_drive eo407)) rfl rfl hl.1 rfl (lv_room (Nat.le_of_ble_eq_true rfl)) dL_law_446 ⟨by dsimp only [room_1]; omega, by dsimp only [room_1]; omega⟩) hw (fun H locs hw => ?_)
                            refine lv_aload_n hx hb dL_law_449 rfl (lv_at hl 2 rfl) ?_
                            refine lv_aload_n hx hb dL_law_450 rfl (lv_at hl 0 rfl) ?_
                            refine lv_iload_n hx hb dL_law_451 rfl (lv_at hl 3 rfl) ?_
                            refine lv_iconst (v := iI 1) hx hb dL_law_452 rfl ?_
                            refine lv_iadd hx hb dL_law_453 ?_
                            obtain ⟨v408, ev408, ho315⟩ := ob_s ho315
                            refine ep_sX hx hb hX hbl hbA hw ev408 dL_law_454 ?_
                            refine lv_aload_n hx hb dL_law_455 rfl (lv_at hl 0 rfl) ?_
                            refine lv_iload_n hx hb dL_law_456 rfl (lv_at hl 3 rfl) ?_
                            refine lv_iconst (v := iI 2) hx hb dL_law_457 rfl ?_
                            refine lv_iadd hx hb dL_law_458 ?_
                            obtain ⟨v409, ev409, ho315⟩ := ob_s ho315
                            refine ep_sX hx hb hX hbl hbA hw ev409 dL_law_459 ?_
                            obtain ⟨o410, eo410, ho315⟩ := ob_s ho315
                            refine ep_calli0 (va_runV (As := [.int v408, .int v409]) (rest := [.int o407.1]) ⟨hx, hb, hml, hown, hts⟩ (metX4_drive l G o407.2 o2.1 v408 v409 eo410) (cwV 2 hts (lw_V q1384 q1385 q1386 q89 q1387) rfl rfl rfl hdX4_drive ⟨Nat.le_of_ble_eq_true rfl, Nat.le_of_ble_eq_true rfl⟩) (ep_preV hK hZ hw rfl (ckX4_drive eo410)) rfl rfl hl.1 rfl (lv_room (Nat.le_of_ble_eq_true rfl)) dL_law_460 ⟨by dsimp only [room_1]; omega, by dsimp only [room_1]; omega⟩) hw (fun H locs hw => ?_)
                            refine lv_icmp_eq (tgt := 1450) hx hb dL_law_463 (by decide) (fun c411 => ?_) (fun c411 => ?_)
                            · have ho315 := oi_t ho315 c411
                              refine W.widen (k := 129 + (65 - (fu + 1)) * 51 + 51) (n := 1789 + (65 - (fu + 1)) * 405 + 405) (by omega) (by omega) ?_
                              exact hJ315 _ (Option.some.inj ho315).symm _ _ _ hw (lv_sub hl [0, 1, 2, 3] rfl)
                            · have ho315 := oi_f ho315 c411
                              refine lv_iconst (v := iI 0) hx hb dL_law_466 rfl ?_
                              exact absurd (congrArg Prod.fst (Option.some.inj (hT315 _ (Option.some.inj ho315).symm))) (show ¬ iI 0 = iI 1 by decide)
                          · have ho315 := oi_f ho315 c325
                            by_cases c326 : (v314 &&& (iI 63)) = iI 10
                            · have ho315 := oi_t ho315 c326
                              refine lv_tableIn (off := 436) (tgt := 468) hx hb dL_law_32 (by rw [ep_swIn c326 (by decide)]; decide) (by rw [ep_swIn c326 (by decide)]; decide) (by rw [ep_swIn c326 (by decide)]; rfl) (by decide) ?_
                              refine lv_aload_n hx hb dL_law_468 rfl (lv_at hl 1 rfl) ?_
                              refine lv_aload_n hx hb dL_law_469 rfl (lv_at hl 0 rfl) ?_
                              refine lv_iload_n hx hb dL_law_470 rfl (lv_at hl 3 rfl) ?_
                              refine lv_iconst (v := iI 1) hx hb dL_law_471 rfl ?_
                              refine lv_iadd hx hb dL_law_472 ?_
                              obtain ⟨v412, ev412, ho315⟩ := ob_s ho315
                              refine ep_sX hx hb hX hbl hbA hw ev412 dL_law_473 ?_
                              refine lv_aload_n hx hb dL_law_474 rfl (lv_at hl 0 rfl) ?_
                              refine lv_iload_n hx hb dL_law_475 rfl (lv_at hl 3 rfl) ?_
                              refine lv_iconst (v := iI 2) hx hb dL_law_476 rfl ?_
                              refine lv_iadd hx hb dL_law_477 ?_
                              obtain ⟨v413, ev413, ho315⟩ := ob_s ho315
                              refine ep_sX hx hb hX hbl hbA hw ev413 dL_law_478 ?_
                              refine lv_aload_n hx hb dL_law_479 rfl (lv_at hl 0 rfl) ?_
                              refine lv_iload_n hx hb dL_law_480 rfl (lv_at hl 3 rfl) ?_
                              refine lv_iconst (v := iI 3) hx hb dL_law_481 rfl ?_
                              refine lv_iadd hx hb dL_law_482 ?_
                              obtain ⟨v414, ev414, ho315⟩ := ob_s ho315
                              refine ep_sX hx hb hX hbl hbA hw ev414 dL_law_483 ?_
                              obtain ⟨o415, eo415, ho315⟩ := ob_s ho315
                              refine ep_calli0 (va_runV (As := [.int v412, .int v413, .int v414]) (rest := []) ⟨hx, hb, hml, hown, hts⟩ (metX0_fence l G h h0.1 v412 v413 v414 eo415) (cwV 3 hts (lw_V q635 q636 q637 q85 q638) rfl rfl rfl hdX0_fence ⟨Nat.le_of_ble_eq_true rfl, Nat.le_of_ble_eq_true rfl⟩) (ep_preV hK hZ hw rfl (ckX0_fence eo415)) rfl rfl hl.1 rfl (lv_room (Nat.le_of_ble_eq_true rfl)) dL_law_484 ⟨by dsimp only [room_1]; omega, by dsimp only [room_1]; omega⟩) hw (fun H locs hw => ?_)
                              refine lv_aload_n hx hb dL_law_487 rfl (lv_at hl 2 rfl) ?_
                              refine lv_aload_n hx hb dL_law_488 rfl (lv_at hl 0 rfl) ?_
                              refine lv_iload_n hx hb dL_law_489 rfl (lv_at hl 3 rfl) ?_
                              refine lv_iconst (v := iI 1) hx hb dL_law_490 rfl ?_
                              refine lv_iadd hx hb dL_law_491 ?_
                              obtain ⟨v416, ev416, ho315⟩ := ob_s ho315
                              refine ep_sX hx hb hX hbl hbA hw ev416 dL_law_492 ?_
                              refine lv_aload_n hx hb dL_law_493 rfl (lv_at hl 0 rfl) ?_
                              refine lv_iload_n hx hb dL_law_494 rfl (lv_at hl 3 rfl) ?_
                              refine lv_iconst (v := iI 2) hx hb dL_law_495 rfl ?_
                              refine lv_iadd hx hb dL_law_496 ?_
                              obtain ⟨v417, ev417, ho315⟩ := ob_s ho315
                              refine ep_sX hx hb hX hbl hbA hw ev417 dL_law_497 ?_
                              refine lv_aload_n hx hb dL_law_498 rfl (lv_at hl 0 rfl) ?_
                              refine lv_iload_n hx hb dL_law_499 rfl (lv_at hl 3 rfl) ?_
                              refine lv_iconst (v := iI 3) hx hb dL_law_500 rfl ?_
                              refine lv_iadd hx hb dL_law_501 ?_
                              obtain ⟨v418, ev418, ho315⟩ := ob_s ho315
                              refine ep_sX hx hb hX hbl hbA hw ev418 dL_law_502 ?_
                              obtain ⟨o419, eo419, ho315⟩ := ob_s ho315
                              refine ep_calli0 (va_runV (As := [.int v416, .int v417, .int v418]) (rest := [.int o415.1]) ⟨hx, hb, hml, hown, hts⟩ (metX4_fence l G o415.2 o2.1 v416 v417 v418 eo419) (cwV 3 hts (lw_V q1395 q1396 q1397 q89 q1398) rfl rfl rfl hdX4_fence ⟨Nat.le_of_ble_eq_true rfl, Nat.le_of_ble_eq_true rfl⟩) (ep_preV hK hZ hw rfl (ckX4_fence eo419)) rfl rfl hl.1 rfl (lv_room (Nat.le_of_ble_eq_true rfl)) dL_law_503 ⟨by dsimp only [room_1]; omega, by dsimp only [room_1]; omega⟩) hw (fun H locs hw => ?_)
                              refine lv_icmp_eq (tgt := 1450) hx hb dL_law_506 (by decide) (fun c420 => ?_) (fun c420 => ?_)
                              · have ho315 := oi_t ho315 c420
                                refine W.widen (k := 129 + (65 - (fu + 1)) * 51 + 51) (n := 1789 + (65 - (fu + 1)) * 405 + 405) (by omega) (by omega) ?_
                                exact hJ315 _ (Option.some.inj ho315).symm _ _ _ hw (lv_sub hl [0, 1, 2, 3] rfl)
                              · have ho315 := oi_f ho315 c420
                                refine lv_iconst (v := iI 0) hx hb dL_law_509 rfl ?_
                                exact absurd (congrArg Prod.fst (Option.some.inj (hT315 _ (Option.some.inj ho315).symm))) (show ¬ iI 0 = iI 1 by decide)
                            · have ho315 := oi_f ho315 c326
                              by_cases c327 : (v314 &&& (iI 63)) = iI 11
                              · have ho315 := oi_t ho315 c327
                                refine lv_tableIn (off := 479) (tgt := 511) hx hb dL_law_32 (by rw [ep_swIn c327 (by decide)]; decide) (by rw [ep_swIn c327 (by decide)]; decide) (by rw [ep_swIn c327 (by decide)]; rfl) (by decide) ?_
                                refine lv_aload_n hx hb dL_law_511 rfl (lv_at hl 1 rfl) ?_
                                refine lv_aload_n hx hb dL_law_512 rfl (lv_at hl 0 rfl) ?_
                                refine lv_iload_n hx hb dL_law_513 rfl (lv_at hl 3 rfl) ?_
                                refine lv_iconst (v := iI 1) hx hb dL_law_514 rfl ?_
                                refine lv_iadd hx hb dL_law_515 ?_
                                obtain ⟨v421, ev421, ho315⟩ := ob_s ho315
                                refine ep_sX hx hb hX hbl hbA hw ev421 dL_law_516 ?_
                                refine lv_aload_n hx hb dL_law_517 rfl (lv_at hl 0 rfl) ?_
                                refine lv_iload_n hx hb dL_law_518 rfl (lv_at hl 3 rfl) ?_
                                refine lv_iconst (v := iI 2) hx hb dL_law_519 rfl ?_
                                refine lv_iadd hx hb dL_law_520 ?_
                                obtain ⟨v422, ev422, ho315⟩ := ob_s ho315
                                refine ep_sX hx hb hX hbl hbA hw ev422 dL_law_521 ?_
                                refine lv_aload_n hx hb dL_law_522 rfl (lv_at hl 0 rfl) ?_
                                refine lv_iload_n hx hb dL_law_523 rfl (lv_at hl 3 rfl) ?_
                                refine lv_iconst (v := iI 3) hx hb dL_law_524 rfl ?_
                                refine lv_iadd hx hb dL_law_525 ?_
                                obtain ⟨v423, ev423, ho315⟩ := ob_s ho315
                                refine ep_sX hx hb hX hbl hbA hw ev423 dL_law_526 ?_
                                obtain ⟨o424, eo424, ho315⟩ := ob_s ho315
                                refine ep_calli0 (va_runV (As := [.int v421, .int v422, .int v423]) (rest := []) ⟨hx, hb, hml, hown, hts⟩ (metX0_raise l G h h0.1 v421 v422 v423 eo424) (cwV 3 hts (lw_V q645 q646 q647 q85 q648) rfl rfl rfl hdX0_raise ⟨Nat.le_of_ble_eq_true rfl, Nat.le_of_ble_eq_true rfl⟩) (ep_preV hK hZ hw rfl (ckX0_raise eo424)) rfl rfl hl.1 rfl (lv_room (Nat.le_of_ble_eq_true rfl)) dL_law_527 ⟨by dsimp only [room_1]; omega, by dsimp only [room_1]; omega⟩) hw (fun H locs hw => ?_)
                                refine lv_aload_n hx hb dL_law_530 rfl (lv_at hl 2 rfl) ?_
                                refine lv_aload_n hx hb dL_law_531 rfl (lv_at hl 0 rfl) ?_
                                refine lv_iload_n hx hb dL_law_532 rfl (lv_at hl 3 rfl) ?_
                                refine lv_iconst (v := iI 1) hx hb dL_law_533 rfl ?_
                                refine lv_iadd hx hb dL_law_534 ?_
                                obtain ⟨v425, ev425, ho315⟩ := ob_s ho315
                                refine ep_sX hx hb hX hbl hbA hw ev425 dL_law_535 ?_
                                refine lv_aload_n hx hb dL_law_536 rfl (lv_at hl 0 rfl) ?_
                                refine lv_iload_n hx hb dL_law_537 rfl (lv_at hl 3 rfl) ?_
                                refine lv_iconst (v := iI 2) hx hb dL_law_538 rfl ?_
                                refine lv_iadd hx hb dL_law_539 ?_
                                obtain ⟨v426, ev426, ho315⟩ := ob_s ho315
                                refine ep_sX hx hb hX hbl hbA hw ev426 dL_law_540 ?_
                                refine lv_aload_n hx hb dL_law_541 rfl (lv_at hl 0 rfl) ?_
                                refine lv_iload_n hx hb dL_law_542 rfl (lv_at hl 3 rfl) ?_
                                refine lv_iconst (v := iI 3) hx hb dL_law_543 rfl ?_
                                refine lv_iadd hx hb dL_law_544 ?_
                                obtain ⟨v427, ev427, ho315⟩ := ob_s ho315
                                refine ep_sX hx hb hX hbl hbA hw ev427 dL_law_545 ?_
                                obtain ⟨o428, eo428, ho315⟩ := ob_s ho315
                                refine ep_calli0 (va_runV (As := [.int v425, .int v426, .int v427]) (rest := [.int o424.1]) ⟨hx, hb, hml, hown, hts⟩ (metX4_raise l G o424.2 o2.1 v425 v426 v427 eo428) (cwV 3 hts (lw_V q1404 q1405 q1406 q89 q1407) rfl rfl rfl hdX4_raise ⟨Nat.le_of_ble_eq_true rfl, Nat.le_of_ble_eq_true rfl⟩) (ep_preV hK hZ hw rfl (ckX4_raise eo428)) rfl rfl hl.1 rfl (lv_room (Nat.le_of_ble_eq_true rfl)) dL_law_546 ⟨by dsimp only [room_1]; omega, by dsimp only [room_1]; omega⟩) hw (fun H locs hw => ?_)
                                refine lv_icmp_eq (tgt := 1450) hx hb dL_law_549 (by decide) (fun c429 => ?_) (fun c429 => ?_)
                                · have ho315 := oi_t ho315 c429
                                  refine W.widen (k := 129 + (65 - (fu + 1)) * 51 + 51) (n := 1789 + (65 - (fu + 1)) * 405 + 405) (by omega) (by omega) ?_
                                  exact hJ315 _ (Option.some.inj ho315).symm _ _ _ hw (lv_sub hl [0, 1, 2, 3] rfl)
                                · have ho315 := oi_f ho315 c429
                                  refine lv_iconst (v := iI 0) hx hb dL_law_552 rfl ?_
                                  exact absurd (congrArg Prod.fst (Option.some.inj (hT315 _ (Option.some.inj ho315).symm))) (show ¬ iI 0 = iI 1 by decide)
                              · have ho315 := oi_f ho315 c327
                                by_cases c328 : (v314 &&& (iI 63)) = iI 12
                                · have ho315 := oi_t ho315 c328
                                  refine lv_tableIn (off := 522) (tgt := 554) hx hb dL_law_32 (by rw [ep_swIn c328 (by decide)]; decide) (by rw [ep_swIn c328 (by decide)]; decide) (by rw [ep_swIn c328 (by decide)]; rfl) (by decide) ?_
                                  refine lv_aload_n hx hb dL_law_554 rfl (lv_at hl 1 rfl) ?_
                                  refine lv_aload_n hx hb dL_law_555 rfl (lv_at hl 0 rfl) ?_
                                  refine lv_iload_n hx hb dL_law_556 rfl (lv_at hl 3 rfl) ?_
                                  refine lv_iconst (v := iI 1) hx hb dL_law_557 rfl ?_
                                  refine lv_iadd hx hb dL_law_558 ?_
                                  obtain ⟨v430, ev430, ho315⟩ := ob_s ho315
                                  refine ep_sX hx hb hX hbl hbA hw ev430 dL_law_559 ?_
                                  obtain ⟨o431, eo431, ho315⟩ := ob_s ho315
                                  refine ep_calli0 (va_runV (As := [.int v430]) (rest := []) ⟨hx, hb, hml, hown, hts⟩ (metX0_clip l G h h0.1 v430 eo431) (cwV 1 hts (lw_V q651 q652 q653 q85 q654) rfl rfl rfl hdX0_clip ⟨Nat.le_of_ble_eq_true rfl, Nat.le_of_ble_eq_true rfl⟩) (ep_preV hK hZ hw rfl (ckX0_clip eo431)) rfl rfl hl.1 rfl (lv_room (Nat.le_of_ble_eq_true rfl)) dL_law_560 ⟨by dsimp only [room_1]; omega, by dsimp only [room_1]; omega⟩) hw (fun H locs hw => ?_)
                                  refine lv_aload_n hx hb dL_law_563 rfl (lv_at hl 2 rfl) ?_
                                  refine lv_aload_n hx hb dL_law_564 rfl (lv_at hl 0 rfl) ?_
                                  refine lv_iload_n hx hb dL_law_565 rfl (lv_at hl 3 rfl) ?_
                                  refine lv_iconst (v := iI 1) hx hb dL_law_566 rfl ?_
                                  refine lv_iadd hx hb dL_law_567 ?_
                                  obtain ⟨v432, ev432, ho315⟩ := ob_s ho315
                                  refine ep_sX hx hb hX hbl hbA hw ev432 dL_law_568 ?_
                                  obtain ⟨o433, eo433, ho315⟩ := ob_s ho315
                                  refine ep_calli0 (va_runV (As := [.int v432]) (rest := [.int o431.1]) ⟨hx, hb, hml, hown, hts⟩ (metX4_clip l G o431.2 o2.1 v432 eo433) (cwV 1 hts (lw_V q1410 q1411 q1412 q89 q1413) rfl rfl rfl hdX4_clip ⟨Nat.le_of_ble_eq_true rfl, Nat.le_of_ble_eq_true rfl⟩) (ep_preV hK hZ hw rfl (ckX4_clip eo433)) rfl rfl hl.1 rfl (lv_room (Nat.le_of_ble_eq_true rfl)) dL_law_569 ⟨by dsimp only [room_1]; omega, by dsimp only [room_1]; omega⟩) hw (fun H locs hw => ?_)
                                  refine lv_icmp_eq (tgt := 1450) hx hb dL_law_572 (by decide) (fun c434 => ?_) (fun c434 => ?_)
                                  · have ho315 := oi_t ho315 c434
                                    refine W.widen (k := 129 + (65 - (fu + 1)) * 51 + 51) (n := 1789 + (65 - (fu + 1)) * 405 + 405) (by omega) (by omega) ?_
                                    exact hJ315 _ (Option.some.inj ho315).symm _ _ _ hw (lv_sub hl [0, 1, 2, 3] rfl)
                                  · have ho315 := oi_f ho315 c434
                                    refine lv_iconst (v := iI 0) hx hb dL_law_575 rfl ?_
                                    exact absurd (congrArg Prod.fst (Option.some.inj (hT315 _ (Option.some.inj ho315).symm))) (show ¬ iI 0 = iI 1 by decide)
                                · have ho315 := oi_f ho315 c328
                                  by_cases c329 : (v314 &&& (iI 63)) = iI 13
                                  · have ho315 := oi_t ho315 c329
                                    refine lv_tableIn (off := 545) (tgt := 577) hx hb dL_law_32 (by rw [ep_swIn c329 (by decide)]; decide) (by rw [ep_swIn c329 (by decide)]; decide) (by rw [ep_swIn c329 (by decide)]; rfl) (by decide) ?_
                                    refine lv_aload_n hx hb dL_law_577 rfl (lv_at hl 1 rfl) ?_
                                    refine lv_aload_n hx hb dL_law_578 rfl (lv_at hl 0 rfl) ?_
                                    refine lv_iload_n hx hb dL_law_579 rfl (lv_at hl 3 rfl) ?_
                                    refine lv_iconst (v := iI 1) hx hb dL_law_580 rfl ?_
                                    refine lv_iadd hx hb dL_law_581 ?_
                                    obtain ⟨v435, ev435, ho315⟩ := ob_s ho315
                                    refine ep_sX hx hb hX hbl hbA hw ev435 dL_law_582 ?_
                                    refine lv_aload_n hx hb dL_law_583 rfl (lv_at hl 0 rfl) ?_
                                    refine lv_iload_n hx hb dL_law_584 rfl (lv_at hl 3 rfl) ?_
                                    refine lv_iconst (v := iI 2) hx hb dL_law_585 rfl ?_
                                    refine lv_iadd hx hb dL_law_586 ?_
                                    obtain ⟨v436, ev436, ho315⟩ := ob_s ho315
                                    refine ep_sX hx hb hX hbl hbA hw ev436 dL_law_587 ?_
                                    obtain ⟨o437, eo437, ho315⟩ := ob_s ho315
                                    refine ep_calli0 (va_runV (As := [.int v435, .int v436]) (rest := []) ⟨hx, hb, hml, hown, hts⟩ (metX0_teach l G h h0.1 v435 v436 eo437) (cwV 2 hts (lw_V q656 q657 q658 q85 q659) rfl rfl rfl hdX0_teach ⟨Nat.le_of_ble_eq_true rfl, Nat.le_of_ble_eq_true rfl⟩) (ep_preV hK hZ hw rfl (ckX0_teach eo437)) rfl rfl hl.1 rfl (lv_room (Nat.le_of_ble_eq_true rfl)) dL_law_588 ⟨by dsimp only [room_1]; omega, by dsimp only [room_1]; omega⟩) hw (fun H locs hw => ?_)
                                    refine lv_aload_n hx hb dL_law_591 rfl (lv_at hl 2 rfl) ?_
                                    refine lv_aload_n hx hb dL_law_592 rfl (lv_at hl 0 rfl) ?_
                                    refine lv_iload_n hx hb dL_law_593 rfl (lv_at hl 3 rfl) ?_
                                    refine lv_iconst (v := iI 1) hx hb dL_law_594 rfl ?_
                                    refine lv_iadd hx hb dL_law_595 ?_
                                    obtain ⟨v438, ev438, ho315⟩ := ob_s ho315
                                    refine ep_sX hx hb hX hbl hbA hw ev438 dL_law_596 ?_
                                    refine lv_aload_n hx hb dL_law_597 rfl (lv_at hl 0 rfl) ?_
                                    refine lv_iload_n hx hb dL_law_598 rfl (lv_at hl 3 rfl) ?_
                                    refine lv_iconst (v := iI 2) hx hb dL_law_599 rfl ?_
                                    refine lv_iadd hx hb dL_law_600 ?_
                                    obtain ⟨v439, ev439, ho315⟩ := ob_s ho315
                                    refine ep_sX hx hb hX hbl hbA hw ev439 dL_law_601 ?_
                                    obtain ⟨o440, eo440, ho315⟩ := ob_s ho315
                                    refine ep_calli0 (va_runV (As := [.int v438, .int v439]) (rest := [.int o437.1]) ⟨hx, hb, hml, hown, hts⟩ (metX4_teach l G o437.2 o2.1 v438 v439 eo440) (cwV 2 hts (lw_V q1426 q1427 q1428 q89 q1429) rfl rfl rfl hdX4_teach ⟨Nat.le_of_ble_eq_true rfl, Nat.le_of_ble_eq_true rfl⟩) (ep_preV hK hZ hw rfl (ckX4_teach eo440)) rfl rfl hl.1 rfl (lv_room (Nat.le_of_ble_eq_true rfl)) dL_law_602 ⟨by dsimp only [room_1]; omega, by dsimp only [room_1]; omega⟩) hw (fun H locs hw => ?_)
                                    refine lv_icmp_eq (tgt := 1450) hx hb dL_law_605 (by decide) (fun c441 => ?_) (fun c441 => ?_)
                                    · have ho315 := oi_t ho315 c441
                                      refine W.widen (k := 129 + (65 - (fu + 1)) * 51 + 51) (n := 1789 + (65 - (fu + 1)) * 405 + 405) (by omega) (by omega) ?_
                                      exact hJ315 _ (Option.some.inj ho315).symm _ _ _ hw (lv_sub hl [0, 1, 2, 3] rfl)
                                    · have ho315 := oi_f ho315 c441
                                      refine lv_iconst (v := iI 0) hx hb dL_law_608 rfl ?_
                                      exact absurd (congrArg Prod.fst (Option.some.inj (hT315 _ (Option.some.inj ho315).symm))) (show ¬ iI 0 = iI 1 by decide)
                                  · have ho315 := oi_f ho315 c329
                                    by_cases c330 : (v314 &&& (iI 63)) = iI 14
                                    · have ho315 := oi_t ho315 c330
                                      refine lv_tableIn (off := 578) (tgt := 610) hx hb dL_law_32 (by rw [ep_swIn c330 (by decide)]; decide) (by rw [ep_swIn c330 (by decide)]; decide) (by rw [ep_swIn c330 (by decide)]; rfl) (by decide) ?_
                                      refine lv_aload_n hx hb dL_law_610 rfl (lv_at hl 1 rfl) ?_
                                      refine lv_aload_n hx hb dL_law_611 rfl (lv_at hl 0 rfl) ?_
                                      refine lv_iload_n hx hb dL_law_612 rfl (lv_at hl 3 rfl) ?_
                                      refine lv_iconst (v := iI 1) hx hb dL_law_613 rfl ?_
                                      refine lv_iadd hx hb dL_law_614 ?_
                                      obtain ⟨v442, ev442, ho315⟩ := ob_s ho315
                                      refine ep_sX hx hb hX hbl hbA hw ev442 dL_law_615 ?_
                                      refine lv_aload_n hx hb dL_law_616 rfl (lv_at hl 0 rfl) ?_
                                      refine lv_iload_n hx hb dL_law_617 rfl (lv_at hl 3 rfl) ?_
                                      refine lv_iconst (v := iI 2) hx hb dL_law_618 rfl ?_
                                      refine lv_iadd hx hb dL_law_619 ?_
                                      obtain ⟨v443, ev443, ho315⟩ := ob_s ho315
                                      refine ep_sX hx hb hX hbl hbA hw ev443 dL_law_620 ?_
                                      obtain ⟨o444, eo444, ho315⟩ := ob_s ho315
                                      refine ep_calli0 (va_runV (As := [.int v442, .int v443]) (rest := []) ⟨hx, hb, hml, hown, hts⟩ (metX0_cross l G h h0.1 v442 v443 eo444) (cwV 2 hts (lw_V q662 q663 q664 q85 q665) rfl rfl rfl hdX0_cross ⟨Nat.le_of_ble_eq_true rfl, Nat.le_of_ble_eq_true rfl⟩) (ep_preV hK hZ hw rfl (ckX0_cross eo444)) rfl rfl hl.1 rfl (lv_room (Nat.le_of_ble_eq_true rfl)) dL_law_621 ⟨by dsimp only [room_1]; omega, by dsimp only [room_1]; omega⟩) hw (fun H locs hw => ?_)
                                      refine lv_aload_n hx hb dL_law_624 rfl (lv_at hl 2 rfl) ?_
                                      refine lv_aload_n hx hb dL_law_625 rfl (lv_at hl 0 rfl) ?_
                                      refine lv_iload_n hx hb dL_law_626 rfl (lv_at hl 3 rfl) ?_
                                      refine lv_iconst (v := iI 1) hx hb dL_law_627 rfl ?_
                                      refine lv_iadd hx hb dL_law_628 ?_
                                      obtain ⟨v445, ev445, ho315⟩ := ob_s ho315
                                      refine ep_sX hx hb hX hbl hbA hw ev445 dL_law_629 ?_
                                      refine lv_aload_n hx hb dL_law_630 rfl (lv_at hl 0 rfl) ?_
                                      refine lv_iload_n hx hb dL_law_631 rfl (lv_at hl 3 rfl) ?_
                                      refine lv_iconst (v := iI 2) hx hb dL_law_632 rfl ?_
                                      refine lv_iadd hx hb dL_law_633 ?_
                                      obtain ⟨v446, ev446, ho315⟩ := ob_s ho315
                                      refine ep_sX hx hb hX hbl hbA hw ev446 dL_law_634 ?_
                                      obtain ⟨o447, eo447, ho315⟩ := ob_s ho315
                                      refine ep_calli0 (va_runV (As := [.int v445, .int v446]) (rest := [.int o444.1]) ⟨hx, hb, hml, hown, hts⟩ (metX4_cross l G o444.2 o2.1 v445 v446 eo447) (cwV 2 hts (lw_V q1430 q1431 q1432 q89 q1433) rfl rfl rfl hdX4_cross ⟨Nat.le_of_ble_eq_true rfl, Nat.le_of_ble_eq_true rfl⟩) (ep_preV hK hZ hw rfl (ckX4_cross eo447)) rfl rfl hl.1 rfl (lv_room (Nat.le_of_ble_eq_true rfl)) dL_law_635 ⟨by dsimp only [room_1]; omega, by dsimp only [room_1]; omega⟩) hw (fun H locs hw => ?_)
                                      refine lv_icmp_eq (tgt := 1450) hx hb dL_law_638 (by decide) (fun c448 => ?_) (fun c448 => ?_)
                                      · have ho315 := oi_t ho315 c448
                                        refine W.widen (k := 129 + (65 - (fu + 1)) * 51 + 51) (n := 1789 + (65 - (fu + 1)) * 405 + 405) (by omega) (by omega) ?_
                                        exact hJ315 _ (Option.some.inj ho315).symm _ _ _ hw (lv_sub hl [0, 1, 2, 3] rfl)
                                      · have ho315 := oi_f ho315 c448
                                        refine lv_iconst (v := iI 0) hx hb dL_law_641 rfl ?_
                                        exact absurd (congrArg Prod.fst (Option.some.inj (hT315 _ (Option.some.inj ho315).symm))) (show ¬ iI 0 = iI 1 by decide)
                                    · have ho315 := oi_f ho315 c330
                                      by_cases c331 : (v314 &&& (iI 63)) = iI 15
                                      · have ho315 := oi_t ho315 c331
                                        refine lv_tableIn (off := 611) (tgt := 643) hx hb dL_law_32 (by rw [ep_swIn c331 (by decide)]; decide) (by rw [ep_swIn c331 (by decide)]; decide) (by rw [ep_swIn c331 (by decide)]; rfl) (by decide) ?_
                                        refine lv_aload_n hx hb dL_law_643 rfl (lv_at hl 1 rfl) ?_
                                        refine lv_aload_n hx hb dL_law_644 rfl (lv_at hl 0 rfl) ?_
                                        refine lv_iload_n hx hb dL_law_645 rfl (lv_at hl 3 rfl) ?_
                                        refine lv_iconst (v := iI 1) hx hb dL_law_646 rfl ?_
                                        refine lv_iadd hx hb dL_law_647 ?_
                                        obtain ⟨v449, ev449, ho315⟩ := ob_s ho315
                                        refine ep_sX hx hb hX hbl hbA hw ev449 dL_law_648 ?_
                                        obtain ⟨o450, eo450, ho315⟩ := ob_s ho315
                                        refine ep_calli0 (va_runV (As := [.int v449]) (rest := []) ⟨hx, hb, hml, hown, hts⟩ (metX0_go l G h h0.1 v449 eo450) (cwV 1 hts (lw_V q666 q667 q668 q85 q669) rfl rfl rfl hdX0_go ⟨Nat.le_of_ble_eq_true rfl, Nat.le_of_ble_eq_true rfl⟩) (ep_preV hK hZ hw rfl (ckX0_go eo450)) rfl rfl hl.1 rfl (lv_room (Nat.le_of_ble_eq_true rfl)) dL_law_649 ⟨by dsimp only [room_1]; omega, by dsimp only [room_1]; omega⟩) hw (fun H locs hw => ?_)
                                        refine lv_aload_n hx hb dL_law_652 rfl (lv_at hl 2 rfl) ?_
                                        refine lv_aload_n hx hb dL_law_653 rfl (lv_at hl 0 rfl) ?_
                                        refine lv_iload_n hx hb dL_law_654 rfl (lv_at hl 3 rfl) ?_
                                        refine lv_iconst (v := iI 1) hx hb dL_law_655 rfl ?_
                                        refine lv_iadd hx hb dL_law_656 ?_
                                        obtain ⟨v451, ev451, ho315⟩ := ob_s ho315
                                        refine ep_sX hx hb hX hbl hbA hw ev451 dL_law_657 ?_
                                        obtain ⟨o452, eo452, ho315⟩ := ob_s ho315
                                        refine ep_calli0 (va_runV (As := [.int v451]) (rest := [.int o450.1]) ⟨hx, hb, hml, hown, hts⟩ (metX4_go l G o450.2 o2.1 v451 eo452) (cwV 1 hts (lw_V q1434 q1435 q1436 q89 q1437) rfl rfl rfl hdX4_go ⟨Nat.le_of_ble_eq_true rfl, Nat.le_of_ble_eq_true rfl⟩) (ep_preV hK hZ hw rfl (ckX4_go eo452)) rfl rfl hl.1 rfl (lv_room (Nat.le_of_ble_eq_true rfl)) dL_law_658 ⟨by dsimp only [room_1]; omega, by dsimp only [room_1]; omega⟩) hw (fun H locs hw => ?_)
                                        refine lv_icmp_eq (tgt := 1450) hx hb dL_law_661 (by decide) (fun c453 => ?_) (fun c453 => ?_)
                                        · have ho315 := oi_t ho315 c453
                                          refine W.widen (k := 129 + (65 - (fu + 1)) * 51 + 51) (n := 1789 + (65 - (fu + 1)) * 405 + 405) (by omega) (by omega) ?_
                                          exact hJ315 _ (Option.some.inj ho315).symm _ _ _ hw (lv_sub hl [0, 1, 2, 3] rfl)
                                        · have ho315 := oi_f ho315 c453
                                          refine lv_iconst (v := iI 0) hx hb dL_law_664 rfl ?_
                                          exact absurd (congrArg Prod.fst (Option.some.inj (hT315 _ (Option.some.inj ho315).symm))) (show ¬ iI 0 = iI 1 by decide)
                                      · have ho315 := oi_f ho315 c331
                                        by_cases c332 : (v314 &&& (iI 63)) = iI 16
                                        · have ho315 := oi_t ho315 c332
                                          refine lv_tableIn (off := 634) (tgt := 666) hx hb dL_law_32 (by rw [ep_swIn c332 (by decide)]; decide) (by rw [ep_swIn c332 (by decide)]; decide) (by rw [ep_swIn c332 (by decide)]; rfl) (by decide) ?_
                                          refine lv_aload_n hx hb dL_law_666 rfl (lv_at hl 1 rfl) ?_
                                          refine lv_aload_n hx hb dL_law_667 rfl (lv_at hl 0 rfl) ?_
                                          refine lv_iload_n hx hb dL_law_668 rfl (lv_at hl 3 rfl) ?_
                                          refine lv_iconst (v := iI 1) hx hb dL_law_669 rfl ?_
                                          refine lv_iadd hx hb dL_law_670 ?_
                                          obtain ⟨v454, ev454, ho315⟩ := ob_s ho315
                                          refine ep_sX hx hb hX hbl hbA hw ev454 dL_law_671 ?_
                                          refine lv_aload_n hx hb dL_law_672 rfl (lv_at hl 0 rfl) ?_
                                          refine lv_iload_n hx hb dL_law_673 rfl (lv_at hl 3 rfl) ?_
                                          refine lv_iconst (v := iI 2) hx hb dL_law_674 rfl ?_
                                          refine lv_iadd hx hb dL_law_675 ?_
                                          obtain ⟨v455, ev455, ho315⟩ := ob_s ho315
                                          refine ep_sX hx hb hX hbl hbA hw ev455 dL_law_676 ?_
                                          refine lv_aload_n hx hb dL_law_677 rfl (lv_at hl 0 rfl) ?_
                                          refine lv_iload_n hx hb dL_law_678 rfl (lv_at hl 3 rfl) ?_
                                          refine lv_iconst (v := iI 3) hx hb dL_law_679 rfl ?_
                                          refine lv_iadd hx hb dL_law_680 ?_
                                          obtain ⟨v456, ev456, ho315⟩ := ob_s ho315
                                          refine ep_sX hx hb hX hbl hbA hw ev456 dL_law_681 ?_
                                          obtain ⟨o457, eo457, ho315⟩ := ob_s ho315
                                          refine ep_calli0 (va_runV (As := [.int v454, .int v455, .int v456]) (rest := []) ⟨hx, hb, hml, hown, hts⟩ (metX0_ahead l G h h0.1 v454 v455 v456 eo457) (cwV 3 hts (lw_V q719 q720 q721 q85 q722) rfl rfl rfl hdX0_ahead ⟨Nat.le_of_ble_eq_true rfl, Nat.le_of_ble_eq_true rfl⟩) (ep_preV hK hZ hw rfl (ckX0_ahead eo457)) rfl rfl hl.1 rfl (lv_room (Nat.le_of_ble_eq_true rfl)) dL_law_682 ⟨by dsimp only [room_1]; omega, by dsimp only [room_1]; omega⟩) hw (fun H locs hw => ?_)
                                          refine lv_aload_n hx hb dL_law_685 rfl (lv_at hl 2 rfl) ?_
                                          refine lv_aload_n hx hb dL_law_686 rfl (lv_at hl 0 rfl) ?_
                                          refine lv_iload_n hx hb dL_law_687 rfl (lv_at hl 3 rfl) ?_
                                          refine lv_iconst (v := iI 1) hx hb dL_law_688 rfl ?_
                                          refine lv_iadd hx hb dL_law_689 ?_
                                          obtain ⟨v458, ev458, ho315⟩ := ob_s ho315
                                          refine ep_sX hx hb hX hbl hbA hw ev458 dL_law_690 ?_
                                          refine lv_aload_n hx hb dL_law_691 rfl (lv_at hl 0 rfl) ?_
                                          refine lv_iload_n hx hb dL_law_692 rfl (lv_at hl 3 rfl) ?_
                                          refine lv_iconst (v := iI 2) hx hb dL_law_693 rfl ?_
                                          refine lv_iadd hx hb dL_law_694 ?_
                                          obtain ⟨v459, ev459, ho315⟩ := ob_s ho315
                                          refine ep_sX hx hb hX hbl hbA hw ev459 dL_law_695 ?_
                                          refine lv_aload_n hx hb dL_law_696 rfl (lv_at hl 0 rfl) ?_
                                          refine lv_iload_n hx hb dL_law_697 rfl (lv_at hl 3 rfl) ?_
                                          refine lv_iconst (v := iI 3) hx hb dL_law_698 rfl ?_
                                          refine lv_iadd hx hb dL_law_699 ?_
                                          obtain ⟨v460, ev460, ho315⟩ := ob_s ho315
                                          refine ep_sX hx hb hX hbl hbA hw ev460 dL_law_700 ?_
                                          obtain ⟨o461, eo461, ho315⟩ := ob_s ho315
                                          refine ep_calli0 (va_runV (As := [.int v458, .int v459, .int v460]) (rest := [.int o457.1]) ⟨hx, hb, hml, hown, hts⟩ (metX4_ahead l G o457.2 o2.1 v458 v459 v460 eo461) (cwV 3 hts (lw_V q1455 q1456 q1457 q89 q1458) rfl rfl rfl hdX4_ahead ⟨Nat.le_of_ble_eq_true rfl, Nat.le_of_ble_eq_true rfl⟩) (ep_preV hK hZ hw rfl (ckX4_ahead eo461)) rfl rfl hl.1 rfl (lv_room (Nat.le_of_ble_eq_true rfl)) dL_law_701 ⟨by dsimp only [room_1]; omega, by dsimp only [room_1]; omega⟩) hw (fun H locs hw => ?_)
                                          refine lv_icmp_eq (tgt := 1450) hx hb dL_law_704 (by decide) (fun c462 => ?_) (fun c462 => ?_)
                                          · have ho315 := oi_t ho315 c462
                                            refine W.widen (k := 129 + (65 - (fu + 1)) * 51 + 51) (n := 1789 + (65 - (fu + 1)) * 405 + 405) (by omega) (by omega) ?_
                                            exact hJ315 _ (Option.some.inj ho315).symm _ _ _ hw (lv_sub hl [0, 1, 2, 3] rfl)
                                          · have ho315 := oi_f ho315 c462
                                            refine lv_iconst (v := iI 0) hx hb dL_law_707 rfl ?_
                                            exact absurd (congrArg Prod.fst (Option.some.inj (hT315 _ (Option.some.inj ho315).symm))) (show ¬ iI 0 = iI 1 by decide)
                                        · have ho315 := oi_f ho315 c332
                                          by_cases c333 : (v314 &&& (iI 63)) = iI 17
                                          · have ho315 := oi_t ho315 c333
                                            refine lv_tableIn (off := 677) (tgt := 709) hx hb dL_law_32 (by rw [ep_swIn c333 (by decide)]; decide) (by rw [ep_swIn c333 (by decide)]; decide) (by rw [ep_swIn c333 (by decide)]; rfl) (by decide) ?_
                                            refine lv_aload_n hx hb dL_law_709 rfl (lv_at hl 1 rfl) ?_
                                            refine lv_aload_n hx hb dL_law_710 rfl (lv_at hl 0 rfl) ?_
                                            refine lv_iload_n hx hb dL_law_711 rfl (lv_at hl 3 rfl) ?_
                                            refine lv_iconst (v := iI 1) hx hb dL_law_712 rfl ?_
                                            refine lv_iadd hx hb dL_law_713 ?_
                                            obtain ⟨v463, ev463, ho315⟩ := ob_s ho315
                                            refine ep_sX hx hb hX hbl hbA hw ev463 dL_law_714 ?_
                                            refine lv_aload_n hx hb dL_law_715 rfl (lv_at hl 0 rfl) ?_
                                            refine lv_iload_n hx hb dL_law_716 rfl (lv_at hl 3 rfl) ?_
                                            refine lv_iconst (v := iI 2) hx hb dL_law_717 rfl ?_
                                            refine lv_iadd hx hb dL_law_718 ?_
                                            obtain ⟨v464, ev464, ho315⟩ := ob_s ho315
                                            refine ep_sX hx hb hX hbl hbA hw ev464 dL_law_719 ?_
                                            obtain ⟨o465, eo465, ho315⟩ := ob_s ho315
                                            refine ep_calli0 (va_runV (As := [.int v463, .int v464]) (rest := []) ⟨hx, hb, hml, hown, hts⟩ (metX0_when l G h h0.1 v463 v464 eo465) (cwV 2 hts (lw_V q723 q724 q725 q85 q726) rfl rfl rfl hdX0_when ⟨Nat.le_of_ble_eq_true rfl, Nat.le_of_ble_eq_true rfl⟩) (ep_preV hK hZ hw rfl (ckX0_when eo465)) rfl rfl hl.1 rfl (lv_room (Nat.le_of_ble_eq_true rfl)) dL_law_720 ⟨by dsimp only [room_1]; omega, by dsimp only [room_1]; omega⟩) hw (fun H locs hw => ?_)
                                            refine lv_aload_n hx hb dL_law_723 rfl (lv_at hl 2 rfl) ?_
                                            refine lv_aload_n hx hb dL_law_724 rfl (lv_at hl 0 rfl) ?_
                                            refine lv_iload_n hx hb dL_law_725 rfl (lv_at hl 3 rfl) ?_
                                            refine lv_iconst (v := iI 1) hx hb dL_law_726 rfl ?_
                                            refine lv_iadd hx hb dL_law_727 ?_
                                            obtain ⟨v466, ev466, ho315⟩ := ob_s ho315
                                            refine ep_sX hx hb hX hbl hbA hw ev466 dL_law_728 ?_
                                            refine lv_aload_n hx hb dL_law_729 rfl (lv_at hl 0 rfl) ?_
                                            refine lv_iload_n hx hb dL_law_730 rfl (lv_at hl 3 rfl) ?_
                                            refine lv_iconst (v := iI 2) hx hb dL_law_731 rfl ?_
                                            refine lv_iadd hx hb dL_law_732 ?_
                                            obtain ⟨v467, ev467, ho315⟩ := ob_s ho315
                                            refine ep_sX hx hb hX hbl hbA hw ev467 dL_law_733 ?_
                                            obtain ⟨o468, eo468, ho315⟩ := ob_s ho315
                                            refine ep_calli0 (va_runV (As := [.int v466, .int v467]) (rest := [.int o465.1]) ⟨hx, hb, hml, hown, hts⟩ (metX4_when l G o465.2 o2.1 v466 v467 eo468) (cwV 2 hts (lw_V q1459 q1460 q1461 q89 q1462) rfl rfl rfl hdX4_when ⟨Nat.le_of_ble_eq_true rfl, Nat.le_of_ble_eq_true rfl⟩) (ep_preV hK hZ hw rfl (ckX4_when eo468)) rfl rfl hl.1 rfl (lv_room (Nat.le_of_ble_eq_true rfl)) dL_law_734 ⟨by dsimp only [room_1]; omega, by dsimp only [room_1]; omega⟩) hw (fun H locs hw => ?_)
                                            refine lv_icmp_eq (tgt := 1450) hx hb dL_law_737 (by decide) (fun c469 => ?_) (fun c469 => ?_)
                                            · have ho315 := oi_t ho315 c469
                                              refine W.widen (k := 129 + (65 - (fu + 1)) * 51 + 51) (n := 1789 + (65 - (fu + 1)) * 405 + 405) (by omega) (by omega) ?_
                                              exact hJ315 _ (Option.some.inj ho315).symm _ _ _ hw (lv_sub hl [0, 1, 2, 3] rfl)
                                            · have ho315 := oi_f ho315 c469
                                              refine lv_iconst (v := iI 0) hx hb dL_law_740 rfl ?_
                                              exact absurd (congrArg Prod.fst (Option.some.inj (hT315 _ (Option.some.inj ho315).symm))) (show ¬ iI 0 = iI 1 by decide)
                                          · have ho315 := oi_f ho315 c333
                                            by_cases c334 : (v314 &&& (iI 63)) = iI 18
                                            · have ho315 := oi_t ho315 c334
                                              refine lv_tableIn (off := 710) (tgt := 742) hx hb dL_law_32 (by rw [ep_swIn c334 (by decide)]; decide) (by rw [ep_swIn c334 (by decide)]; decide) (by rw [ep_swIn c334 (by decide)]; rfl) (by decide) ?_
                                              refine lv_aload_n hx hb dL_law_742 rfl (lv_at hl 1 rfl) ?_
                                              refine lv_aload_n hx hb dL_law_743 rfl (lv_at hl 0 rfl) ?_
                                              refine lv_iload_n hx hb dL_law_744 rfl (lv_at hl 3 rfl) ?_
                                              refine lv_iconst (v := iI 1) hx hb dL_law_745 rfl ?_
                                              refine lv_iadd hx hb dL_law_746 ?_
                                              obtain ⟨v470, ev470, ho315⟩ := ob_s ho315
                                              refine ep_sX hx hb hX hbl hbA hw ev470 dL_law_747 ?_
                                              refine lv_aload_n hx hb dL_law_748 rfl (lv_at hl 0 rfl) ?_
                                              refine lv_iload_n hx hb dL_law_749 rfl (lv_at hl 3 rfl) ?_
                                              refine lv_iconst (v := iI 2) hx hb dL_law_750 rfl ?_
                                              refine lv_iadd hx hb dL_law_751 ?_
                                              obtain ⟨v471, ev471, ho315⟩ := ob_s ho315
                                              refine ep_sX hx hb hX hbl hbA hw ev471 dL_law_752 ?_
                                              obtain ⟨v472, ev472, ho315⟩ := ob_s ho315
                                              refine ep_calli0 (va_runV (As := [.int v470, .int v471]) (rest := []) ⟨hx, hb, hml, hown, hts⟩ (metX0_heard l G h h0.1 v470 v471 ev472) (cwV 2 hts (lw_V q736 q737 q738 q85 q739) rfl rfl rfl hdX0_heard ⟨Nat.le_of_ble_eq_true rfl, Nat.le_of_ble_eq_true rfl⟩) (ep_preV hK hZ hw rfl (ckX0_heard ev472)) rfl rfl hl.1 rfl (lv_room (Nat.le_of_ble_eq_true rfl)) dL_law_753 ⟨by dsimp only [room_1]; omega, by dsimp only [room_1]; omega⟩) hw (fun H locs hw => ?_)
                                              refine lv_aload_n hx hb dL_law_756 rfl (lv_at hl 2 rfl) ?_
                                              refine lv_aload_n hx hb dL_law_757 rfl (lv_at hl 0 rfl) ?_
                                              refine lv_iload_n hx hb dL_law_758 rfl (lv_at hl 3 rfl) ?_
                                              refine lv_iconst (v := iI 1) hx hb dL_law_759 rfl ?_
                                              refine lv_iadd hx hb dL_law_760 ?_
                                              obtain ⟨v473, ev473, ho315⟩ := ob_s ho315
                                              refine ep_sX hx hb hX hbl hbA hw ev473 dL_law_761 ?_
                                              refine lv_aload_n hx hb dL_law_762 rfl (lv_at hl 0 rfl) ?_
                                              refine lv_iload_n hx hb dL_law_763 rfl (lv_at hl 3 rfl) ?_
                                              refine lv_iconst (v := iI 2) hx hb dL_law_764 rfl ?_
                                              refine lv_iadd hx hb dL_law_765 ?_
                                              obtain ⟨v474, ev474, ho315⟩ := ob_s ho315
                                              refine ep_sX hx hb hX hbl hbA hw ev474 dL_law_766 ?_
                                              obtain ⟨o475, eo475, ho315⟩ := ob_s ho315
                                              refine ep_calli0 (va_runV (As := [.int v473, .int v474]) (rest := [.int v472]) ⟨hx, hb, hml, hown, hts⟩ (metX4_heard l G h o2.1 v473 v474 eo475) (cwV 2 hts (lw_V q1475 q1476 q1477 q89 q1478) rfl rfl rfl hdX4_heard ⟨Nat.le_of_ble_eq_true rfl, Nat.le_of_ble_eq_true rfl⟩) (ep_preV hK hZ hw rfl (ckX4_heard eo475)) rfl rfl hl.1 rfl (lv_room (Nat.le_of_ble_eq_true rfl)) dL_law_767 ⟨by dsimp only [room_1]; omega, by dsimp only [room_1]; omega⟩) hw (fun H locs hw => ?_)
                                              refine lv_icmp_eq (tgt := 1450) hx hb dL_law_770 (by decide) (fun c476 => ?_) (fun c476 => ?_)
                                              · have ho315 := oi_t ho315 c476
                                                refine W.widen (k := 129 + (65 - (fu + 1)) * 51 + 51) (n := 1789 + (65 - (fu + 1)) * 405 + 405) (by omega) (by omega) ?_
                                                exact hJ315 _ (Option.some.inj ho315).symm _ _ _ hw (lv_sub hl [0, 1, 2, 3] rfl)
                                              · have ho315 := oi_f ho315 c476
                                                refine lv_iconst (v := iI 0) hx hb dL_law_773 rfl ?_
                                                exact absurd (congrArg Prod.fst (Option.some.inj (hT315 _ (Option.some.inj ho315).symm))) (show ¬ iI 0 = iI 1 by decide)
                                            · have ho315 := oi_f ho315 c334
                                              by_cases c335 : (v314 &&& (iI 63)) = iI 19
                                              · have ho315 := oi_t ho315 c335
                                                refine lv_tableIn (off := 743) (tgt := 775) hx hb dL_law_32 (by rw [ep_swIn c335 (by decide)]; decide) (by rw [ep_swIn c335 (by decide)]; decide) (by rw [ep_swIn c335 (by decide)]; rfl) (by decide) ?_
                                                refine lv_aload_n hx hb dL_law_775 rfl (lv_at hl 1 rfl) ?_
                                                refine lv_aload_n hx hb dL_law_776 rfl (lv_at hl 0 rfl) ?_
                                                refine lv_iload_n hx hb dL_law_777 rfl (lv_at hl 3 rfl) ?_
                                                refine lv_iconst (v := iI 1) hx hb dL_law_778 rfl ?_
                                                refine lv_iadd hx hb dL_law_779 ?_
                                                obtain ⟨v477, ev477, ho315⟩ := ob_s ho315
                                                refine ep_sX hx hb hX hbl hbA hw ev477 dL_law_780 ?_
                                                obtain ⟨v478, ev478, ho315⟩ := ob_s ho315
                                                refine ep_calli0 (va_runV (As := [.int v477]) (rest := []) ⟨hx, hb, hml, hown, hts⟩ (metX0_together l G h h0.1 v477 ev478) (cwV 1 hts (lw_V q751 q752 q753 q85 q754) rfl rfl rfl hdX0_together ⟨Nat.le_of_ble_eq_true rfl, Nat.le_of_ble_eq_true rfl⟩) (ep_preV hK hZ hw rfl (ckX0_together ev478)) rfl rfl hl.1 rfl (lv_room (Nat.le_of_ble_eq_true rfl)) dL_law_781 ⟨by dsimp only [room_1]; omega, by dsimp only [room_1]; omega⟩) hw (fun H locs hw => ?_)
                                                refine lv_aload_n hx hb dL_law_784 rfl (lv_at hl 2 rfl) ?_
                                                refine lv_aload_n hx hb dL_law_785 rfl (lv_at hl 0 rfl) ?_
                                                refine lv_iload_n hx hb dL_law_786 rfl (lv_at hl 3 rfl) ?_
                                                refine lv_iconst (v := iI 1) hx hb dL_law_787 rfl ?_
                                                refine lv_iadd hx hb dL_law_788 ?_
                                                obtain ⟨v479, ev479, ho315⟩ := ob_s ho315
                                                refine ep_sX hx hb hX hbl hbA hw ev479 dL_law_789 ?_
                                                obtain ⟨o480, eo480, ho315⟩ := ob_s ho315
                                                refine ep_calli0 (va_runV (As := [.int v479]) (rest := [.int v478]) ⟨hx, hb, hml, hown, hts⟩ (metX4_together l G h o2.1 v479 eo480) (cwV 1 hts (lw_V q1491 q1492 q1493 q89 q1494) rfl rfl rfl hdX4_together ⟨Nat.le_of_ble_eq_true rfl, Nat.le_of_ble_eq_true rfl⟩) (ep_preV hK hZ hw rfl (ckX4_together eo480)) rfl rfl hl.1 rfl (lv_room (Nat.le_of_ble_eq_true rfl)) dL_law_790 ⟨by dsimp only [room_1]; omega, by dsimp only [room_1]; omega⟩) hw (fun H locs hw => ?_)
                                                refine lv_icmp_eq (tgt := 1450) hx hb dL_law_793 (by decide) (fun c481 => ?_) (fun c481 => ?_)
                                                · have ho315 := oi_t ho315 c481
                                                  refine W.widen (k := 129 + (65 - (fu + 1)) * 51 + 51) (n := 1789 + (65 - (fu + 1)) * 405 + 405) (by omega) (by omega) ?_
                                                  exact hJ315 _ (Option.some.inj ho315).symm _ _ _ hw (lv_sub hl [0, 1, 2, 3] rfl)
                                                · have ho315 := oi_f ho315 c481
                                                  refine lv_iconst (v := iI 0) hx hb dL_law_796 rfl ?_
                                                  exact absurd (congrArg Prod.fst (Option.some.inj (hT315 _ (Option.some.inj ho315).symm))) (show ¬ iI 0 = iI 1 by decide)
                                              · have ho315 := oi_f ho315 c335
                                                by_cases c336 : (v314 &&& (iI 63)) = iI 20
                                                · have ho315 := oi_t ho315 c336
                                                  refine lv_tableIn (off := 766) (tgt := 798) hx hb dL_law_32 (by rw [ep_swIn c336 (by decide)]; decide) (by rw [ep_swIn c336 (by decide)]; decide) (by rw [ep_swIn c336 (by decide)]; rfl) (by decide) ?_
                                                  refine lv_aload_n hx hb dL_law_798 rfl (lv_at hl 1 rfl) ?_
                                                  refine lv_aload_n hx hb dL_law_799 rfl (lv_at hl 0 rfl) ?_
                                                  refine lv_iload_n hx hb dL_law_800 rfl (lv_at hl 3 rfl) ?_
                                                  refine lv_iconst (v := iI 1) hx hb dL_law_801 rfl ?_
                                                  refine lv_iadd hx hb dL_law_802 ?_
                                                  obtain ⟨v482, ev482, ho315⟩ := ob_s ho315
                                                  refine ep_sX hx hb hX hbl hbA hw ev482 dL_law_803 ?_
                                                  obtain ⟨v483, ev483, ho315⟩ := ob_s ho315
                                                  refine ep_calli0 (va_runV (As := [.int v482]) (rest := []) ⟨hx, hb, hml, hown, hts⟩ (metX0_still l G h h0.1 v482 ev483) (cwV 1 hts (lw_V q755 q756 q757 q85 q758) rfl rfl rfl hdX0_still ⟨Nat.le_of_ble_eq_true rfl, Nat.le_of_ble_eq_true rfl⟩) (ep_preV hK hZ hw rfl (ckX0_still ev483)) rfl rfl hl.1 rfl (lv_room (Nat.le_of_ble_eq_true rfl)) dL_law_804 ⟨by dsimp only [room_1]; omega, by dsimp only [room_1]; omega⟩) hw (fun H locs hw => ?_)
                                                  refine lv_aload_n hx hb dL_law_807 rfl (lv_at hl 2 rfl) ?_
                                                  refine lv_aload_n hx hb dL_law_808 rfl (lv_at hl 0 rfl) ?_
                                                  refine lv_iload_n hx hb dL_law_809 rfl (lv_at hl 3 rfl) ?_
                                                  refine lv_iconst (v := iI 1) hx hb dL_law_810 rfl ?_
                                                  refine lv_iadd hx hb dL_law_811 ?_
                                                  obtain ⟨v484, ev484, ho315⟩ := ob_s ho315
                                                  refine ep_sX hx hb hX hbl hbA hw ev484 dL_law_812 ?_
                                                  obtain ⟨o485, eo485, ho315⟩ := ob_s ho315
                                                  refine ep_calli0 (va_runV (As := [.int v484]) (rest := [.int v483]) ⟨hx, hb, hml, hown, hts⟩ (metX4_still l G h o2.1 v484 eo485) (cwV 1 hts (lw_V q1495 q1496 q1497 q89 q1498) rfl rfl rfl hdX4_still ⟨Nat.le_of_ble_eq_true rfl, Nat.le_of_ble_eq_true rfl⟩) (ep_preV hK hZ hw rfl (ckX4_still eo485)) rfl rfl hl.1 rfl (lv_room (Nat.le_of_ble_eq_true rfl)) dL_law_813 ⟨by dsimp only [room_1]; omega, by dsimp only [room_1]; omega⟩) hw (fun H locs hw => ?_)
                                                  refine lv_icmp_eq (tgt := 1450) hx hb dL_law_816 (by decide) (fun c486 => ?_) (fun c486 => ?_)
                                                  · have ho315 := oi_t ho315 c486
                                                    refine W.widen (k := 129 + (65 - (fu + 1)) * 51 + 51) (n := 1789 + (65 - (fu + 1)) * 405 + 405) (by omega) (by omega) ?_
                                                    exact hJ315 _ (Option.some.inj ho315).symm _ _ _ hw (lv_sub hl [0, 1, 2, 3] rfl)
                                                  · have ho315 := oi_f ho315 c486
                                                    refine lv_iconst (v := iI 0) hx hb dL_law_819 rfl ?_
                                                    exact absurd (congrArg Prod.fst (Option.some.inj (hT315 _ (Option.some.inj ho315).symm))) (show ¬ iI 0 = iI 1 by decide)
                                                · have ho315 := oi_f ho315 c336
                                                  by_cases c337 : (v314 &&& (iI 63)) = iI 21
                                                  · have ho315 := oi_t ho315 c337
                                                    refine lv_tableIn (off := 789) (tgt := 821) hx hb dL_law_32 (by rw [ep_swIn c337 (by decide)]; decide) (by rw [ep_swIn c337 (by decide)]; decide) (by rw [ep_swIn c337 (by decide)]; rfl) (by decide) ?_
                                                    refine lv_aload_n hx hb dL_law_821 rfl (lv_at hl 1 rfl) ?_
                                                    refine lv_aload_n hx hb dL_law_822 rfl (lv_at hl 0 rfl) ?_
                                                    refine lv_iload_n hx hb dL_law_823 rfl (lv_at hl 3 rfl) ?_
                                                    refine lv_iconst (v := iI 1) hx hb dL_law_824 rfl ?_
                                                    refine lv_iadd hx hb dL_law_825 ?_
                                                    obtain ⟨v487, ev487, ho315⟩ := ob_s ho315
                                                    refine ep_sX hx hb hX hbl hbA hw ev487 dL_law_826 ?_
                                                    obtain ⟨v488, ev488, ho315⟩ := ob_s ho315
                                                    refine ep_calli0 (va_runV (As := [.int v487]) (rest := []) ⟨hx, hb, hml, hown, hts⟩ (metX0_meets l G h h0.1 v487 ev488) (cwV 1 hts (lw_V q760 q761 q762 q85 q763) rfl rfl rfl hdX0_meets ⟨Nat.le_of_ble_eq_true rfl, Nat.le_of_ble_eq_true rfl⟩) (ep_preV hK hZ hw rfl (ckX0_meets ev488)) rfl rfl hl.1 rfl (lv_room (Nat.le_of_ble_eq_true rfl)) dL_law_827 ⟨by dsimp only [room_1]; omega, by dsimp only [room_1]; omega⟩) hw (fun H locs hw => ?_)
                                                    refine lv_aload_n hx hb dL_law_830 rfl (lv_at hl 2 rfl) ?_
                                                    refine lv_aload_n hx hb dL_law_831 rfl (lv_at hl 0 rfl) ?_
                                                    refine lv_iload_n hx hb dL_law_832 rfl (lv_at hl 3 rfl) ?_
                                                    refine lv_iconst (v := iI 1) hx hb dL_law_833 rfl ?_
                                                    refine lv_iadd hx hb dL_law_834 ?_
                                                    obtain ⟨v489, ev489, ho315⟩ := ob_s ho315
                                                    refine ep_sX hx hb hX hbl hbA hw ev489 dL_law_835 ?_
                                                    obtain ⟨o490, eo490, ho315⟩ := ob_s ho315
                                                    refine ep_calli0 (va_runV (As := [.int v489]) (rest := [.int v488]) ⟨hx, hb, hml, hown, hts⟩ (metX4_meets l G h o2.1 v489 eo490) (cwV 1 hts (lw_V q1499 q1500 q1501 q89 q1502) rfl rfl rfl hdX4_meets ⟨Nat.le_of_ble_eq_true rfl, Nat.le_of_ble_eq_true rfl⟩) (ep_preV hK hZ hw rfl (ckX4_meets eo490)) rfl rfl hl.1 rfl (lv_room (Nat.le_of_ble_eq_true rfl)) dL_law_836 ⟨by dsimp only [room_1]; omega, by dsimp only [room_1]; omega⟩) hw (fun H locs hw => ?_)
                                                    refine lv_icmp_eq (tgt := 1450) hx hb dL_law_839 (by decide) (fun c491 => ?_) (fun c491 => ?_)
                                                    · have ho315 := oi_t ho315 c491
                                                      refine W.widen (k := 129 + (65 - (fu + 1)) * 51 + 51) (n := 1789 + (65 - (fu + 1)) * 405 + 405) (by omega) (by omega) ?_
                                                      exact hJ315 _ (Option.some.inj ho315).symm _ _ _ hw (lv_sub hl [0, 1, 2, 3] rfl)
                                                    · have ho315 := oi_f ho315 c491
                                                      refine lv_iconst (v := iI 0) hx hb dL_law_842 rfl ?_
                                                      exact absurd (congrArg Prod.fst (Option.some.inj (hT315 _ (Option.some.inj ho315).symm))) (show ¬ iI 0 = iI 1 by decide)
                                                  · have ho315 := oi_f ho315 c337
                                                    by_cases c338 : (v314 &&& (iI 63)) = iI 22
                                                    · have ho315 := oi_t ho315 c338
                                                      refine lv_tableIn (off := 812) (tgt := 844) hx hb dL_law_32 (by rw [ep_swIn c338 (by decide)]; decide) (by rw [ep_swIn c338 (by decide)]; decide) (by rw [ep_swIn c338 (by decide)]; rfl) (by decide) ?_
                                                      refine lv_aload_n hx hb dL_law_844 rfl (lv_at hl 1 rfl) ?_
                                                      refine lv_aload_n hx hb dL_law_845 rfl (lv_at hl 0 rfl) ?_
                                                      refine lv_iload_n hx hb dL_law_846 rfl (lv_at hl 3 rfl) ?_
                                                      refine lv_iconst (v := iI 1) hx hb dL_law_847 rfl ?_
                                                      refine lv_iadd hx hb dL_law_848 ?_
                                                      obtain ⟨v492, ev492, ho315⟩ := ob_s ho315
                                                      refine ep_sX hx hb hX hbl hbA hw ev492 dL_law_849 ?_
                                                      refine lv_aload_n hx hb dL_law_850 rfl (lv_at hl 0 rfl) ?_
                                                      refine lv_iload_n hx hb dL_law_851 rfl (lv_at hl 3 rfl) ?_
                                                      refine lv_iconst (v := iI 2) hx hb dL_law_852 rfl ?_
                                                      refine lv_iadd hx hb dL_law_853 ?_
                                                      obtain ⟨v493, ev493, ho315⟩ := ob_s ho315
                                                      refine ep_sX hx hb hX hbl hbA hw ev493 dL_law_854 ?_
                                                      obtain ⟨o494, eo494, ho315⟩ := ob_s ho315
                                                      refine ep_calli0 (va_runV (As := [.int v492, .int v493]) (rest := []) ⟨hx, hb, hml, hown, hts⟩ (metX0_sell l G h h0.1 v492 v493 eo494) (cwV 2 hts (lw_V q764 q765 q766 q85 q767) rfl rfl rfl hdX0_sell ⟨Nat.le_of_ble_eq_true rfl, Nat.le_of_ble_eq_true rfl⟩) (ep_preV hK hZ hw rfl (ckX0_sell eo494)) rfl rfl hl.1 rfl (lv_room (Nat.le_of_ble_eq_true rfl)) dL_law_855 ⟨by dsimp only [room_1]; omega, by dsimp only [room_1]; omega⟩) hw (fun H locs hw => ?_)
                                                      refine lv_aload_n hx hb dL_law_858 rfl (lv_at hl 2 rfl) ?_
                                                      refine lv_aload_n hx hb dL_law_859 rfl (lv_at hl 0 rfl) ?_
                                                      refine lv_iload_n hx hb dL_law_860 rfl (lv_at hl 3 rfl) ?_
                                                      refine lv_iconst (v := iI 1) hx hb dL_law_861 rfl ?_
                                                      refine lv_iadd hx hb dL_law_862 ?_
                                                      obtain ⟨v495, ev495, ho315⟩ := ob_s ho315
                                                      refine ep_sX hx hb hX hbl hbA hw ev495 dL_law_863 ?_
                                                      refine lv_aload_n hx hb dL_law_864 rfl (lv_at hl 0 rfl) ?_
                                                      refine lv_iload_n hx hb dL_law_865 rfl (lv_at hl 3 rfl) ?_
                                                      refine lv_iconst (v := iI 2) hx hb dL_law_866 rfl ?_
                                                      refine lv_iadd hx hb dL_law_867 ?_
                                                      obtain ⟨v496, ev496, ho315⟩ := ob_s ho315
                                                      refine ep_sX hx hb hX hbl hbA hw ev496 dL_law_868 ?_
                                                      obtain ⟨o497, eo497, ho315⟩ := ob_s ho315
                                                      refine ep_calli0 (va_runV (As := [.int v495, .int v496]) (rest := [.int o494.1]) ⟨hx, hb, hml, hown, hts⟩ (metX4_sell l G o494.2 o2.1 v495 v496 eo497) (cwV 2 hts (lw_V q1503 q1504 q1505 q89 q1506) rfl rfl rfl hdX4_sell ⟨Nat.le_of_ble_eq_true rfl, Nat.le_of_ble_eq_true rfl⟩) (ep_preV hK hZ hw rfl (ckX4_sell eo497)) rfl rfl hl.1 rfl (lv_room (Nat.le_of_ble_eq_true rfl)) dL_law_869 ⟨by dsimp only [room_1]; omega, by dsimp only [room_1]; omega⟩) hw (fun H locs hw => ?_)
                                                      refine lv_icmp_eq (tgt := 1450) hx hb dL_law_872 (by decide) (fun c498 => ?_) (fun c498 => ?_)
                                                      · have ho315 := oi_t ho315 c498
                                                        refine W.widen (k := 129 + (65 - (fu + 1)) * 51 + 51) (n := 1789 + (65 - (fu + 1)) * 405 + 405) (by omega) (by omega) ?_
                                                        exact hJ315 _ (Option.some.inj ho315).symm _ _ _ hw (lv_sub hl [0, 1, 2, 3] rfl)
                                                      · have ho315 := oi_f ho315 c498
                                                        refine lv_iconst (v := iI 0) hx hb dL_law_875 rfl ?_
                                                        exact absurd (congrArg Prod.fst (Option.some.inj (hT315 _ (Option.some.inj ho315).symm))) (show ¬ iI 0 = iI 1 by decide)
                                                    · have ho315 := oi_f ho315 c338
                                                      by_cases c339 : (v314 &&& (iI 63)) = iI 23
                                                      · have ho315 := oi_t ho315 c339
                                                        refine lv_tableIn (off := 845) (tgt := 877) hx hb dL_law_32 (by rw [ep_swIn c339 (by decide)]; decide) (by rw [ep_swIn c339 (by decide)]; decide) (by rw [ep_swIn c339 (by decide)]; rfl) (by decide) ?_
                                                        refine lv_aload_n hx hb dL_law_877 rfl (lv_at hl 1 rfl) ?_
                                                        refine lv_aload_n hx hb dL_law_878 rfl (lv_at hl 0 rfl) ?_
                                                        refine lv_iload_n hx hb dL_law_879 rfl (lv_at hl 3 rfl) ?_
                                                        refine lv_iconst (v := iI 1) hx hb dL_law_880 rfl ?_
                                                        refine lv_iadd hx hb dL_law_881 ?_
                                                        obtain ⟨v499, ev499, ho315⟩ := ob_s ho315
                                                        refine ep_sX hx hb hX hbl hbA hw ev499 dL_law_882 ?_
                                                        obtain ⟨o500, eo500, ho315⟩ := ob_s ho315
                                                        refine ep_calli0 (va_runV (As := [.int v499]) (rest := []) ⟨hx, hb, hml, hown, hts⟩ (metX0_sale l G h h0.1 v499 eo500) (cwV 1 hts (lw_V q768 q769 q770 q85 q771) rfl rfl rfl hdX0_sale ⟨Nat.le_of_ble_eq_true rfl, Nat.le_of_ble_eq_true rfl⟩) (ep_preV hK hZ hw rfl (ckX0_sale eo500)) rfl rfl hl.1 rfl (lv_room (Nat.le_of_ble_eq_true rfl)) dL_law_883 ⟨by dsimp only [room_1]; omega, by dsimp only [room_1]; omega⟩) hw (fun H locs hw => ?_)
                                                        refine lv_aload_n hx hb dL_law_886 rfl (lv_at hl 2 rfl) ?_
                                                        refine lv_aload_n hx hb dL_law_887 rfl (lv_at hl 0 rfl) ?_
                                                        refine lv_iload_n hx hb dL_law_888 rfl (lv_at hl 3 rfl) ?_
                                                        refine lv_iconst (v := iI 1) hx hb dL_law_889 rfl ?_
                                                        refine lv_iadd hx hb dL_law_890 ?_
                                                        obtain ⟨v501, ev501, ho315⟩ := ob_s ho315
                                                        refine ep_sX hx hb hX hbl hbA hw ev501 dL_law_891 ?_
                                                        obtain ⟨o502, eo502, ho315⟩ := ob_s ho315
                                                        refine ep_calli0 (va_runV (As := [.int v501]) (rest := [.int o500.1]) ⟨hx, hb, hml, hown, hts⟩ (metX4_sale l G o500.2 o2.1 v501 eo502) (cwV 1 hts (lw_V q1507 q1508 q1509 q89 q1510) rfl rfl rfl hdX4_sale ⟨Nat.le_of_ble_eq_true rfl, Nat.le_of_ble_eq_true rfl⟩) (ep_preV hK hZ hw rfl (ckX4_sale eo502)) rfl rfl hl.1 rfl (lv_room (Nat.le_of_ble_eq_true rfl)) dL_law_892 ⟨by dsimp only [room_1]; omega, by dsimp only [room_1]; omega⟩) hw (fun H locs hw => ?_)
                                                        refine lv_icmp_eq (tgt := 1450) hx hb dL_law_895 (by decide) (fun c503 => ?_) (fun c503 => ?_)
                                                        · have ho315 := oi_t ho315 c503
                                                          refine W.widen (k := 129 + (65 - (fu + 1)) * 51 + 51) (n := 1789 + (65 - (fu + 1)) * 405 + 405) (by omega) (by omega) ?_
                                                          exact hJ315 _ (Option.some.inj ho315).symm _ _ _ hw (lv_sub hl [0, 1, 2, 3] rfl)
                                                        · have ho315 := oi_f ho315 c503
                                                          refine lv_iconst (v := iI 0) hx hb dL_law_898 rfl ?_
                                                          exact absurd (congrArg Prod.fst (Option.some.inj (hT315 _ (Option.some.inj ho315).symm))) (show ¬ iI 0 = iI 1 by decide)
                                                      · have ho315 := oi_f ho315 c339
                                                        by_cases c340 : (v314 &&& (iI 63)) = iI 24
                                                        · have ho315 := oi_t ho315 c340
                                                          refine lv_tableIn (off := 868) (tgt := 900) hx hb dL_law_32 (by rw [ep_swIn c340 (by decide)]; decide) (by rw [ep_swIn c340 (by decide)]; decide) (by rw [ep_swIn c340 (by decide)]; rfl) (by decide) ?_
                                                          refine lv_aload_n hx hb dL_law_900 rfl (lv_at hl 1 rfl) ?_
                                                          refine lv_aload_n hx hb dL_law_901 rfl (lv_at hl 0 rfl) ?_
                                                          refine lv_iload_n hx hb dL_law_902 rfl (lv_at hl 3 rfl) ?_
                                                          refine lv_iconst (v := iI 1) hx hb dL_law_903 rfl ?_
                                                          refine lv_iadd hx hb dL_law_904 ?_
                                                          obtain ⟨v504, ev504, ho315⟩ := ob_s ho315
                                                          refine ep_sX hx hb hX hbl hbA hw ev504 dL_law_905 ?_
                                                          refine lv_aload_n hx hb dL_law_906 rfl (lv_at hl 0 rfl) ?_
                                                          refine lv_iload_n hx hb dL_law_907 rfl (lv_at hl 3 rfl) ?_
                                                          refine lv_iconst (v := iI 2) hx hb dL_law_908 rfl ?_
                                                          refine lv_iadd hx hb dL_law_909 ?_
                                                          obtain ⟨v505, ev505, ho315⟩ := ob_s ho315
                                                          refine ep_sX hx hb hX hbl hbA hw ev505 dL_law_910 ?_
                                                          obtain ⟨o506, eo506, ho315⟩ := ob_s ho315
                                                          refine ep_calli0 (va_runV (As := [.int v504, .int v505]) (rest := []) ⟨hx, hb, hml, hown, hts⟩ (metX0_best l G h h0.1 v504 v505 eo506) (cwV 2 hts (lw_V q780 q781 q782 q85 q783) rfl rfl rfl hdX0_best ⟨Nat.le_of_ble_eq_true rfl, Nat.le_of_ble_eq_true rfl⟩) (ep_preV hK hZ hw rfl (ckX0_best eo506)) rfl rfl hl.1 rfl (lv_room (Nat.le_of_ble_eq_true rfl)) dL_law_911 ⟨by dsimp only [room_1]; omega, by dsimp only [room_1]; omega⟩) hw (fun H locs hw => ?_)
                                                          refine lv_aload_n hx hb dL_law_914 rfl (lv_at hl 2 rfl) ?_
                                                          refine lv_aload_n hx hb dL_law_915 rfl (lv_at hl 0 rfl) ?_
                                                          refine lv_iload_n hx hb dL_law_916 rfl (lv_at hl 3 rfl) ?_
                                                          refine lv_iconst (v := iI 1) hx hb dL_law_917 rfl ?_
                                                          refine lv_iadd hx hb dL_law_918 ?_
                                                          obtain ⟨v507, ev507, ho315⟩ := ob_s ho315
                                                          refine ep_sX hx hb hX hbl hbA hw ev507 dL_law_919 ?_
                                                          refine lv_aload_n hx hb dL_law_920 rfl (lv_at hl 0 rfl) ?_
                                                          refine lv_iload_n hx hb dL_law_921 rfl (lv_at hl 3 rfl) ?_
                                                          refine lv_iconst (v := iI 2) hx hb dL_law_922 rfl ?_
                                                          refine lv_iadd hx hb dL_law_923 ?_
                                                          obtain ⟨v508, ev508, ho315⟩ := ob_s ho315
                                                          refine ep_sX hx hb hX hbl hbA hw ev508 dL_law_924 ?_
                                                          obtain ⟨o509, eo509, ho315⟩ := ob_s ho315
                                                          refine ep_calli0 (va_runV (As := [.int v507, .int v508]) (rest := [.int o506.1]) ⟨hx, hb, hml, hown, hts⟩ (metX4_best l G o506.2 o2.1 v507 v508 eo509) (cwV 2 hts (lw_V q1530 q1531 q1532 q89 q1533) rfl rfl rfl hdX4_best ⟨Nat.le_of_ble_eq_true rfl, Nat.le_of_ble_eq_true rfl⟩) (ep_preV hK hZ hw rfl (ckX4_best eo509)) rfl rfl hl.1 rfl (lv_room (Nat.le_of_ble_eq_true rfl)) dL_law_925 ⟨by dsimp only [room_1]; omega, by dsimp only [room_1]; omega⟩) hw (fun H locs hw => ?_)
                                                          refine lv_icmp_eq (tgt := 1450) hx hb dL_law_928 (by decide) (fun c510 => ?_) (fun c510 => ?_)
                                                          · have ho315 := oi_t ho315 c510
                                                            refine W.widen (k := 129 + (65 - (fu + 1)) * 51 + 51) (n := 1789 + (65 - (fu + 1)) * 405 + 405) (by omega) (by omega) ?_
                                                            exact hJ315 _ (Option.some.inj ho315).symm _ _ _ hw (lv_sub hl [0, 1, 2, 3] rfl)
                                                          · have ho315 := oi_f ho315 c510
                                                            refine lv_iconst (v := iI 0) hx hb dL_law_931 rfl ?_
                                                            exact absurd (congrArg Prod.fst (Option.some.inj (hT315 _ (Option.some.inj ho315).symm))) (show ¬ iI 0 = iI 1 by decide)
                                                        · have ho315 := oi_f ho315 c340
                                                          by_cases c341 : (v314 &&& (iI 63)) = iI 25
                                                          · have ho315 := oi_t ho315 c341
                                                            refine lv_tableIn (off := 901) (tgt := 933) hx hb dL_law_32 (by rw [ep_swIn c341 (by decide)]; decide) (by rw [ep_swIn c341 (by decide)]; decide) (by rw [ep_swIn c341 (by decide)]; rfl) (by decide) ?_
                                                            refine lv_aload_n hx hb dL_law_933 rfl (lv_at hl 1 rfl) ?_
                                                            refine lv_aload_n hx hb dL_law_934 rfl (lv_at hl 0 rfl) ?_
                                                            refine lv_iload_n hx hb dL_law_935 rfl (lv_at hl 3 rfl) ?_
                                                            refine lv_iconst (v := iI 1) hx hb dL_law_936 rfl ?_
                                                            refine lv_iadd hx hb dL_law_937 ?_
                                                            obtain ⟨v511, ev511, ho315⟩ := ob_s ho315
                                                            refine ep_sX hx hb hX hbl hbA hw ev511 dL_law_938 ?_
                                                            obtain ⟨v512, ev512, ho315⟩ := ob_s ho315
                                                            refine ep_calli0 (va_runV (As := [.int v511]) (rest := []) ⟨hx, hb, hml, hown, hts⟩ (metX0_near l G h h0.1 v511 ev512) (cwV 1 hts (lw_V q801 q802 q803 q85 q804) rfl rfl rfl hdX0_near ⟨Nat.le_of_ble_eq_true rfl, Nat.le_of_ble_eq_true rfl⟩) (ep_preV hK hZ hw rfl (ckX0_near ev512)) rfl rfl hl.1 rfl (lv_room (Nat.le_of_ble_eq_true rfl)) dL_law_939 ⟨by dsimp only [room_1]; omega, by dsimp only [room_1]; omega⟩) hw (fun H locs hw => ?_)
                                                            refine lv_aload_n hx hb dL_law_942 rfl (lv_at hl 2 rfl) ?_
                                                            refine lv_aload_n hx hb dL_law_943 rfl (lv_at hl 0 rfl) ?_
                                                            refine lv_iload_n hx hb dL_law_944 rfl (lv_at hl 3 rfl) ?_
                                                            refine lv_iconst (v := iI 1) hx hb dL_law_945 rfl ?_
                                                            refine lv_iadd hx hb dL_law_946 ?_
                                                            obtain ⟨v513, ev513, ho315⟩ := ob_s ho315
                                                            refine ep_sX hx hb hX hbl hbA hw ev513 dL_law_947 ?_
                                                            obtain ⟨o514, eo514, ho315⟩ := ob_s ho315
                                                            refine ep_calli0 (va_runV (As := [.int v513]) (rest := [.int v512]) ⟨hx, hb, hml, hown, hts⟩ (metX4_near l G h o2.1 v513 eo514) (cwV 1 hts (lw_V q1543 q1544 q1545 q89 q1546) rfl rfl rfl hdX4_near ⟨Nat.le_of_ble_eq_true rfl, Nat.le_of_ble_eq_true rfl⟩) (ep_preV hK hZ hw rfl (ckX4_near eo514)) rfl rfl hl.1 rfl (lv_room (Nat.le_of_ble_eq_true rfl)) dL_law_948 ⟨by dsimp only [room_1]; omega, by dsimp only [room_1]; omega⟩) hw (fun H locs hw => ?_)
                                                            refine lv_icmp_eq (tgt := 1450) hx hb dL_law_951 (by decide) (fun c515 => ?_) (fun c515 => ?_)
                                                            · have ho315 := oi_t ho315 c515
                                                              refine W.widen (k := 129 + (65 - (fu + 1)) * 51 + 51) (n := 1789 + (65 - (fu + 1)) * 405 + 405) (by omega) (by omega) ?_
                                                              exact hJ315 _ (Option.some.inj ho315).symm _ _ _ hw (lv_sub hl [0, 1, 2, 3] rfl)
                                                            · have ho315 := oi_f ho315 c515
                                                              refine lv_iconst (v := iI 0) hx hb dL_law_954 rfl ?_
                                                              exact absurd (congrArg Prod.fst (Option.some.inj (hT315 _ (Option.some.inj ho315).symm))) (show ¬ iI 0 = iI 1 by decide)
                                                          · have ho315 := oi_f ho315 c341
                                                            by_cases c342 : (v314 &&& (iI 63)) = iI 26
                                                            · have ho315 := oi_t ho315 c342
                                                              refine lv_tableIn (off := 924) (tgt := 956) hx hb dL_law_32 (by rw [ep_swIn c342 (by decide)]; decide) (by rw [ep_swIn c342 (by decide)]; decide) (by rw [ep_swIn c342 (by decide)]; rfl) (by decide) ?_
                                                              refine lv_aload_n hx hb dL_law_956 rfl (lv_at hl 1 rfl) ?_
                                                              refine lv_aload_n hx hb dL_law_957 rfl (lv_at hl 0 rfl) ?_
                                                              refine lv_iload_n hx hb dL_law_958 rfl (lv_at hl 3 rfl) ?_
                                                              refine lv_iconst (v := iI 1) hx hb dL_law_959 rfl ?_
                                                              refine lv_iadd hx hb dL_law_960 ?_
                                                              obtain ⟨v516, ev516, ho315⟩ := ob_s ho315
                                                              refine ep_sX hx hb hX hbl hbA hw ev516 dL_law_961 ?_
                                                              refine lv_aload_n hx hb dL_law_962 rfl (lv_at hl 0 rfl) ?_
                                                              refine lv_iload_n hx hb dL_law_963 rfl (lv_at hl 3 rfl) ?_
                                                              refine lv_iconst (v := iI 2) hx hb dL_law_964 rfl ?_
                                                              refine lv_iadd hx hb dL_law_965 ?_
                                                              obtain ⟨v517, ev517, ho315⟩ := ob_s ho315
                                                              refine ep_sX hx hb hX hbl hbA hw ev517 dL_law_966 ?_
                                                              refine lv_aload_n hx hb dL_law_967 rfl (lv_at hl 0 rfl) ?_
                                                              refine lv_iload_n hx hb dL_law_968 rfl (lv_at hl 3 rfl) ?_
                                                              refine lv_iconst (v := iI 3) hx hb dL_law_969 rfl ?_
                                                              refine lv_iadd hx hb dL_law_970 ?_
                                                              obtain ⟨v518, ev518, ho315⟩ := ob_s ho315
                                                              refine ep_sX hx hb hX hbl hbA hw ev518 dL_law_971 ?_
                                                              refine lv_aload_n hx hb dL_law_972 rfl (lv_at hl 0 rfl) ?_
                                                              refine lv_iload_n hx hb dL_law_973 rfl (lv_at hl 3 rfl) ?_
                                                              refine lv_iconst (v := iI 4) hx hb dL_law_974 rfl ?_
                                                              refine lv_iadd hx hb dL_law_975 ?_
                                                              obtain ⟨v519, ev519, ho315⟩ := ob_s ho315
                                                              refine ep_sX hx hb hX hbl hbA hw ev519 dL_law_976 ?_
                                                              obtain ⟨v520, ev520, ho315⟩ := ob_s ho315
                                                              refine ep_calll0 (va_runV (As := [.int v516, .int v517, .int v518, .int v519]) (rest := []) ⟨hx, hb, hml, hown, hts⟩ (metX0_keeps l G h h0.1 v516 v517 v518 v519 ev520) (cwV 4 hts (lw_V q807 q808 q809 q85 q810) rfl rfl rfl hdX0_keeps ⟨Nat.le_of_ble_eq_true rfl, Nat.le_of_ble_eq_true rfl⟩) (ep_preV hK hZ hw rfl (ckX0_keeps ev520)) rfl rfl hl.1 rfl (lv_room (Nat.le_of_ble_eq_true rfl)) dL_law_977 ⟨by dsimp only [room_1]; omega, by dsimp only [room_1]; omega⟩) hw (fun H locs hw => ?_)
                                                              refine lv_aload_n hx hb dL_law_980 rfl (lv_at hl 2 rfl) ?_
                                                              refine lv_aload_n hx hb dL_law_981 rfl (lv_at hl 0 rfl) ?_
                                                              refine lv_iload_n hx hb dL_law_982 rfl (lv_at hl 3 rfl) ?_
                                                              refine lv_iconst (v := iI 1) hx hb dL_law_983 rfl ?_
                                                              refine lv_iadd hx hb dL_law_984 ?_
                                                              obtain ⟨v521, ev521, ho315⟩ := ob_s ho315
                                                              refine ep_sX hx hb hX hbl hbA hw ev521 dL_law_985 ?_
                                                              refine lv_aload_n hx hb dL_law_986 rfl (lv_at hl 0 rfl) ?_
                                                              refine lv_iload_n hx hb dL_law_987 rfl (lv_at hl 3 rfl) ?_
                                                              refine lv_iconst (v := iI 2) hx hb dL_law_988 rfl ?_
                                                              refine lv_iadd hx hb dL_law_989 ?_
                                                              obtain ⟨v522, ev522, ho315⟩ := ob_s ho315
                                                              refine ep_sX hx hb hX hbl hbA hw ev522 dL_law_990 ?_
                                                              refine lv_aload_n hx hb dL_law_991 rfl (lv_at hl 0 rfl) ?_
                                                              refine lv_iload_n hx hb dL_law_992 rfl (lv_at hl 3 rfl) ?_
                                                              refine lv_iconst (v := iI 3) hx hb dL_law_993 rfl ?_
                                                              refine lv_iadd hx hb dL_law_994 ?_
                                                              obtain ⟨v523, ev523, ho315⟩ := ob_s ho315
                                                              refine ep_sX hx hb hX hbl hbA hw ev523 dL_law_995 ?_
                                                              refine lv_aload_n hx hb dL_law_996 rfl (lv_at hl 0 rfl) ?_
                                                              refine lv_iload_n hx hb dL_law_997 rfl (lv_at hl 3 rfl) ?_
                                                              refine lv_iconst (v := iI 4) hx hb dL_law_998 rfl ?_
                                                              refine lv_iadd hx hb dL_law_999 ?_
                                                              obtain ⟨v524, ev524, ho315⟩ := ob_s ho315
                                                              refine ep_sX hx hb hX hbl hbA hw ev524 dL_law_1000 ?_
                                                              obtain ⟨o525, eo525, ho315⟩ := ob_s ho315
                                                              refine ep_calll0 (va_runV (As := [.int v521, .int v522, .int v523, .int v524]) (rest := [.long v520]) ⟨hx, hb, hml, hown, hts⟩ (metX4_keeps l G h o2.1 v521 v522 v523 v524 eo525) (cwV 4 hts (lw_V q1548 q1549 q1550 q89 q1551) rfl rfl rfl hdX4_keeps ⟨Nat.le_of_ble_eq_true rfl, Nat.le_of_ble_eq_true rfl⟩) (ep_preV hK hZ hw rfl (ckX4_keeps eo525)) rfl rfl hl.1 rfl (lv_room (Nat.le_of_ble_eq_true rfl)) dL_law_1001 ⟨by dsimp only [room_1]; omega, by dsimp only [room_1]; omega⟩) hw (fun H locs hw => ?_)
                                                              refine W.lcmp hx hb dL_law_1004 ?_
                                                              refine lv_if_eq (tgt := 1450) hx hb dL_law_1005 (by decide) (fun c526 => ?_) (fun c526 => ?_)
                                                              · have ho315 := oi_t ho315 c526
                                                                refine W.widen (k := 129 + (65 - (fu + 1)) * 51 + 51) (n := 1789 + (65 - (fu + 1)) * 405 + 405) (by omega) (by omega) ?_
                                                                exact hJ315 _ (Option.some.inj ho315).symm _ _ _ hw (lv_sub hl [0, 1, 2, 3] rfl)
                                                              · have ho315 := oi_f ho315 c526
                                                                refine lv_iconst (v := iI 0) hx hb dL_law_1008 rfl ?_
                                                                exact absurd (congrArg Prod.fst (Option.some.inj (hT315 _ (Option.some.inj ho315).symm))) (show ¬ iI 0 = iI 1 by decide)
                                                            · have ho315 := oi_f ho315 c342
                                                              by_cases c343 : (v314 &&& (iI 63)) = iI 27
                                                              · have ho315 := oi_t ho315 c343
                                                                refine lv_tableIn (off := 978) (tgt := 1010) hx hb dL_law_32 (by rw [ep_swIn c343 (by decide)]; decide) (by rw [ep_swIn c343 (by decide)]; decide) (by rw [ep_swIn c343 (by decide)]; rfl) (by decide) ?_
                                                                refine lv_aload_n hx hb dL_law_1010 rfl (lv_at hl 1 rfl) ?_
                                                                refine lv_aload_n hx hb dL_law_1011 rfl (lv_at hl 0 rfl) ?_
                                                                refine lv_iload_n hx hb dL_law_1012 rfl (lv_at hl 3 rfl) ?_
                                                                refine lv_iconst (v := iI 1) hx hb dL_law_1013 rfl ?_
                                                                refine lv_iadd hx hb dL_law_1014 ?_
                                                                obtain ⟨v527, ev527, ho315⟩ := ob_s ho315
                                                                refine ep_sX hx hb hX hbl hbA hw ev527 dL_law_1015 ?_
                                                                refine lv_aload_n hx hb dL_law_1016 rfl (lv_at hl 0 rfl) ?_
                                                                refine lv_iload_n hx hb dL_law_1017 rfl (lv_at hl 3 rfl) ?_
                                                                refine lv_iconst (v := iI 2) hx hb dL_law_1018 rfl ?_
                                                                refine lv_iadd hx hb dL_law_1019 ?_
                                                                obtain ⟨v528, ev528, ho315⟩ := ob_s ho315
                                                                refine ep_sX hx hb hX hbl hbA hw ev528 dL_law_1020 ?_
                                                                refine lv_aload_n hx hb dL_law_1021 rfl (lv_at hl 0 rfl) ?_
                                                                refine lv_iload_n hx hb dL_law_1022 rfl (lv_at hl 3 rfl) ?_
                                                                refine lv_iconst (v := iI 3) hx hb dL_law_1023 rfl ?_
                                                                refine lv_iadd hx hb dL_law_1024 ?_
                                                                obtain ⟨v529, ev529, ho315⟩ := ob_s ho315
                                                                refine ep_sX hx hb hX hbl hbA hw ev529 dL_law_1025 ?_
                                                                refine lv_aload_n hx hb dL_law_1026 rfl (lv_at hl 0 rfl) ?_
                                                                refine lv_iload_n hx hb dL_law_1027 rfl (lv_at hl 3 rfl) ?_
                                                                refine lv_iconst (v := iI 4) hx hb dL_law_1028 rfl ?_
                                                                refine lv_iadd hx hb dL_law_1029 ?_
                                                                obtain ⟨v530, ev530, ho315⟩ := ob_s ho315
                                                                refine ep_sX hx hb hX hbl hbA hw ev530 dL_law_1030 ?_
                                                                obtain ⟨v531, ev531, ho315⟩ := ob_s ho315
                                                                refine ep_calll0 (va_runV (As := [.int v527, .int v528, .int v529, .int v530]) (rest := []) ⟨hx, hb, hml, hown, hts⟩ (metX0_mean l G h h0.1 v527 v528 v529 v530 ev531) (cwV 4 hts (lw_V q827 q828 q829 q85 q830) rfl rfl rfl hdX0_mean ⟨Nat.le_of_ble_eq_true rfl, Nat.le_of_ble_eq_true rfl⟩) (ep_preV hK hZ hw rfl (ckX0_mean ev531)) rfl rfl hl.1 rfl (lv_room (Nat.le_of_ble_eq_true rfl)) dL_law_1031 ⟨by dsimp only [room_1]; omega, by dsimp only [room_1]; omega⟩) hw (fun H locs hw => ?_)
                                                                refine lv_aload_n hx hb dL_law_1034 rfl (lv_at hl 2 rfl) ?_
                                                                refine lv_aload_n hx hb dL_law_1035 rfl (lv_at hl 0 rfl) ?_
                                                                refine lv_iload_n hx hb dL_law_1036 rfl (lv_at hl 3 rfl) ?_
                                                                refine lv_iconst (v := iI 1) hx hb dL_law_1037 rfl ?_
                                                                refine lv_iadd hx hb dL_law_1038 ?_
                                                                obtain ⟨v532, ev532, ho315⟩ := ob_s ho315
                                                                refine ep_sX hx hb hX hbl hbA hw ev532 dL_law_1039 ?_
                                                                refine lv_aload_n hx hb dL_law_1040 rfl (lv_at hl 0 rfl) ?_
                                                                refine lv_iload_n hx hb dL_law_1041 rfl (lv_at hl 3 rfl) ?_
                                                                refine lv_iconst (v := iI 2) hx hb dL_law_1042 rfl ?_
                                                                refine lv_iadd hx hb dL_law_1043 ?_
                                                                obtain ⟨v533, ev533, ho315⟩ := ob_s ho315
                                                                refine ep_sX hx hb hX hbl hbA hw ev533 dL_law_1044 ?_
                                                                refine lv_aload_n hx hb dL_law_1045 rfl (lv_at hl 0 rfl) ?_
                                                                refine lv_iload_n hx hb dL_law_1046 rfl (lv_at hl 3 rfl) ?_
                                                                refine lv_iconst (v := iI 3) hx hb dL_law_1047 rfl ?_
                                                                refine lv_iadd hx hb dL_law_1048 ?_
                                                                obtain ⟨v534, ev534, ho315⟩ := ob_s ho315
                                                                refine ep_sX hx hb hX hbl hbA hw ev534 dL_law_1049 ?_
                                                                refine lv_aload_n hx hb dL_law_1050 rfl (lv_at hl 0 rfl) ?_
                                                                refine lv_iload_n hx hb dL_law_1051 rfl (lv_at hl 3 rfl) ?_
                                                                refine lv_iconst (v := iI 4) hx hb dL_law_1052 rfl ?_
                                                                refine lv_iadd hx hb dL_law_1053 ?_
                                                                obtain ⟨v535, ev535, ho315⟩ := ob_s ho315
                                                                refine ep_sX hx hb hX hbl hbA hw ev535 dL_law_1054 ?_
                                                                obtain ⟨o536, eo536, ho315⟩ := ob_s ho315
                                                                refine ep_calll0 (va_runV (As := [.int v532, .int v533, .int v534, .int v535]) (rest := [.long v531]) ⟨hx, hb, hml, hown, hts⟩ (metX4_mean l G h o2.1 v532 v533 v534 v535 eo536) (cwV 4 hts (lw_V q1565 q1566 q1567 q89 q1568) rfl rfl rfl hdX4_mean ⟨Nat.le_of_ble_eq_true rfl, Nat.le_of_ble_eq_true rfl⟩) (ep_preV hK hZ hw rfl (ckX4_mean eo536)) rfl rfl hl.1 rfl (lv_room (Nat.le_of_ble_eq_true rfl)) dL_law_1055 ⟨by dsimp only [room_1]; omega, by dsimp only [room_1]; omega⟩) hw (fun H locs hw => ?_)
                                                                refine W.lcmp hx hb dL_law_1058 ?_
                                                                refine lv_if_eq (tgt := 1450) hx hb dL_law_1059 (by decide) (fun c537 => ?_) (fun c537 => ?_)
                                                                · have ho315 := oi_t ho315 c537
                                                                  refine W.widen (k := 129 + (65 - (fu + 1)) * 51 + 51) (n := 1789 + (65 - (fu + 1)) * 405 + 405) (by omega) (by omega) ?_
                                                                  exact hJ315 _ (Option.some.inj ho315).symm _ _ _ hw (lv_sub hl [0, 1, 2, 3] rfl)
                                                                · have ho315 := oi_f ho315 c537
                                                                  refine lv_iconst (v := iI 0) hx hb dL_law_1062 rfl ?_
                                                                  exact absurd (congrArg Prod.fst (Option.some.inj (hT315 _ (Option.some.inj ho315).symm))) (show ¬ iI 0 = iI 1 by decide)
                                                              · have ho315 := oi_f ho315 c343
                                                                by_cases c344 : (v314 &&& (iI 63)) = iI 28
                                                                · have ho315 := oi_t ho315 c344
                                                                  refine lv_tableIn (off := 1032) (tgt := 1064) hx hb dL_law_32 (by rw [ep_swIn c344 (by decide)]; decide) (by rw [ep_swIn c344 (by decide)]; decide) (by rw [ep_swIn c344 (by decide)]; rfl) (by decide) ?_
                                                                  refine lv_aload_n hx hb dL_law_1064 rfl (lv_at hl 1 rfl) ?_
                                                                  refine lv_aload_n hx hb dL_law_1065 rfl (lv_at hl 0 rfl) ?_
                                                                  refine lv_iload_n hx hb dL_law_1066 rfl (lv_at hl 3 rfl) ?_
                                                                  refine lv_iconst (v := iI 1) hx hb dL_law_1067 rfl ?_
                                                                  refine lv_iadd hx hb dL_law_1068 ?_
                                                                  obtain ⟨v538, ev538, ho315⟩ := ob_s ho315
                                                                  refine ep_sX hx hb hX hbl hbA hw ev538 dL_law_1069 ?_
                                                                  refine lv_aload_n hx hb dL_law_1070 rfl (lv_at hl 0 rfl) ?_
                                                                  refine lv_iload_n hx hb dL_law_1071 rfl (lv_at hl 3 rfl) ?_
                                                                  refine lv_iconst (v := iI 2) hx hb dL_law_1072 rfl ?_
                                                                  refine lv_iadd hx hb dL_law_1073 ?_
                                                                  obtain ⟨v539, ev539, ho315⟩ := ob_s ho315
                                                                  refine ep_sX hx hb hX hbl hbA hw ev539 dL_law_1074 ?_
                                                                  refine lv_aload_n hx hb dL_law_1075 rfl (lv_at hl 0 rfl) ?_
                                                                  refine lv_iload_n hx hb dL_law_1076 rfl (lv_at hl 3 rfl) ?_
                                                                  refine lv_iconst (v := iI 3) hx hb dL_law_1077 rfl ?_
                                                                  refine lv_iadd hx hb dL_law_1078 ?_
                                                                  obtain ⟨v540, ev540, ho315⟩ := ob_s ho315
                                                                  refine ep_sX hx hb hX hbl hbA hw ev540 dL_law_1079 ?_
                                                                  obtain ⟨o541, eo541, ho315⟩ := ob_s ho315
                                                                  refine ep_calli0 (va_runV (As := [.int v538, .int v539, .int v540]) (rest := []) ⟨hx, hb, hml, hown, hts⟩ (metX0_see l G h h0.1 v538 v539 v540 eo541) (cwV 3 hts (lw_V q831 q832 q833 q85 q834) rfl rfl rfl hdX0_see ⟨Nat.le_of_ble_eq_true rfl, Nat.le_of_ble_eq_true rfl⟩) (ep_preV hK hZ hw rfl (ckX0_see eo541)) rfl rfl hl.1 rfl (lv_room (Nat.le_of_ble_eq_true rfl)) dL_law_1080 ⟨by dsimp only [room_1]; omega, by dsimp only [room_1]; omega⟩) hw (fun H locs hw => ?_)
                                                                  refine lv_aload_n hx hb dL_law_1083 rfl (lv_at hl 2 rfl) ?_
                                                                  refine lv_aload_n hx hb dL_law_1084 rfl (lv_at hl 0 rfl) ?_
                                                                  refine lv_iload_n hx hb dL_law_1085 rfl (lv_at hl 3 rfl) ?_
                                                                  refine lv_iconst (v := iI 1) hx hb dL_law_1086 rfl ?_
                                                                  refine lv_iadd hx hb dL_law_1087 ?_
                                                                  obtain ⟨v542, ev542, ho315⟩ := ob_s ho315
                                                                  refine ep_sX hx hb hX hbl hbA hw ev542 dL_law_1088 ?_
                                                                  refine lv_aload_n hx hb dL_law_1089 rfl (lv_at hl 0 rfl) ?_
                                                                  refine lv_iload_n hx hb dL_law_1090 rfl (lv_at hl 3 rfl) ?_
                                                                  refine lv_iconst (v := iI 2) hx hb dL_law_1091 rfl ?_
                                                                  refine lv_iadd hx hb dL_law_1092 ?_
                                                                  obtain ⟨v543, ev543, ho315⟩ := ob_s ho315
                                                                  refine ep_sX hx hb hX hbl hbA hw ev543 dL_law_1093 ?_
                                                                  refine lv_aload_n hx hb dL_law_1094 rfl (lv_at hl 0 rfl) ?_
                                                                  refine lv_iload_n hx hb dL_law_1095 rfl (lv_at hl 3 rfl) ?_
                                                                  refine lv_iconst (v := iI 3) hx hb dL_law_1096 rfl ?_
                                                                  refine lv_iadd hx hb dL_law_1097 ?_
                                                                  obtain ⟨v544, ev544, ho315⟩ := ob_s ho315
                                                                  refine ep_sX hx hb hX hbl hbA hw ev544 dL_law_1098 ?_
                                                                  obtain ⟨o545, eo545, ho315⟩ := ob_s ho315
                                                                  refine ep_calli0 (va_runV (As := [.int v542, .int v543, .int v544]) (rest := [.int o541.1]) ⟨hx, hb, hml, hown, hts⟩ (metX4_see l G o541.2 o2.1 v542 v543 v544 eo545) (cwV 3 hts (lw_V q1569 q1570 q1571 q89 q1572) rfl rfl rfl hdX4_see ⟨Nat.le_of_ble_eq_true rfl, Nat.le_of_ble_eq_true rfl⟩) (ep_preV hK hZ hw rfl (ckX4_see eo545)) rfl rfl hl.1 rfl (lv_room (Nat.le_of_ble_eq_true rfl)) dL_law_1099 ⟨by dsimp only [room_1]; omega, by dsimp only [room_1]; omega⟩) hw (fun H locs hw => ?_)
                                                                  refine lv_icmp_eq (tgt := 1450) hx hb dL_law_1102 (by decide) (fun c546 => ?_) (fun c546 => ?_)
                                                                  · have ho315 := oi_t ho315 c546
                                                                    refine W.widen (k := 129 + (65 - (fu + 1)) * 51 + 51) (n := 1789 + (65 - (fu + 1)) * 405 + 405) (by omega) (by omega) ?_
                                                                    exact hJ315 _ (Option.some.inj ho315).symm _ _ _ hw (lv_sub hl [0, 1, 2, 3] rfl)
                                                                  · have ho315 := oi_f ho315 c546
                                                                    refine lv_iconst (v := iI 0) hx hb dL_law_1105 rfl ?_
                                                                    exact absurd (congrArg Prod.fst (Option.some.inj (hT315 _ (Option.some.inj ho315).symm))) (show ¬ iI 0 = iI 1 by decide)
                                                                · have ho315 := oi_f ho315 c344
                                                                  by_cases c345 : (v314 &&& (iI 63)) = iI 29
                                                                  · have ho315 := oi_t ho315 c345
                                                                    refine lv_tableIn (off := 1075) (tgt := 1107) hx hb dL_law_32 (by rw [ep_swIn c345 (by decide)]; decide) (by rw [ep_swIn c345 (by decide)]; decide) (by rw [ep_swIn c345 (by decide)]; rfl) (by decide) ?_
                                                                    refine lv_aload_n hx hb dL_law_1107 rfl (lv_at hl 1 rfl) ?_
                                                                    refine lv_aload_n hx hb dL_law_1108 rfl (lv_at hl 0 rfl) ?_
                                                                    refine lv_iload_n hx hb dL_law_1109 rfl (lv_at hl 3 rfl) ?_
                                                                    refine lv_iconst (v := iI 1) hx hb dL_law_1110 rfl ?_
                                                                    refine lv_iadd hx hb dL_law_1111 ?_
                                                                    obtain ⟨v547, ev547, ho315⟩ := ob_s ho315
                                                                    refine ep_sX hx hb hX hbl hbA hw ev547 dL_law_1112 ?_
                                                                    obtain ⟨o548, eo548, ho315⟩ := ob_s ho315
                                                                    refine ep_calli0 (va_runV (As := [.int v547]) (rest := []) ⟨hx, hb, hml, hown, hts⟩ (metX0_forget l G h h0.1 v547 eo548) (cwV 1 hts (lw_V q836 q837 q838 q85 q839) rfl rfl rfl hdX0_forget ⟨Nat.le_of_ble_eq_true rfl, Nat.le_of_ble_eq_true rfl⟩) (ep_preV hK hZ hw rfl (ckX0_forget eo548)) rfl rfl hl.1 rfl (lv_room (Nat.le_of_ble_eq_true rfl)) dL_law_1113 ⟨by dsimp only [room_1]; omega, by dsimp only [room_1]; omega⟩) hw (fun H locs hw => ?_)
                                                                    refine lv_aload_n hx hb dL_law_1116 rfl (lv_at hl 2 rfl) ?_
                                                                    refine lv_aload_n hx hb dL_law_1117 rfl (lv_at hl 0 rfl) ?_
                                                                    refine lv_iload_n hx hb dL_law_1118 rfl (lv_at hl 3 rfl) ?_
                                                                    refine lv_iconst (v := iI 1) hx hb dL_law_1119 rfl ?_
                                                                    refine lv_iadd hx hb dL_law_1120 ?_
                                                                    obtain ⟨v549, ev549, ho315⟩ := ob_s ho315
                                                                    refine ep_sX hx hb hX hbl hbA hw ev549 dL_law_1121 ?_
                                                                    obtain ⟨o550, eo550, ho315⟩ := ob_s ho315
                                                                    refine ep_calli0 (va_runV (As := [.int v549]) (rest := [.int o548.1]) ⟨hx, hb, hml, hown, hts⟩ (metX4_forget l G o548.2 o2.1 v549 eo550) (cwV 1 hts (lw_V q1574 q1575 q1576 q89 q1577) rfl rfl rfl hdX4_forget ⟨Nat.le_of_ble_eq_true rfl, Nat.le_of_ble_eq_true rfl⟩) (ep_preV hK hZ hw rfl (ckX4_forget eo550)) rfl rfl hl.1 rfl (lv_room (Nat.le_of_ble_eq_true rfl)) dL_law_1122 ⟨by dsimp only [room_1]; omega, by dsimp only [room_1]; omega⟩) hw (fun H locs hw => ?_)
                                                                    refine lv_icmp_eq (tgt := 1450) hx hb dL_law_1125 (by decide) (fun c551 => ?_) (fun c551 => ?_)
                                                                    · have ho315 := oi_t ho315 c551
                                                                      refine W.widen (k := 129 + (65 - (fu + 1)) * 51 + 51) (n := 1789 + (65 - (fu + 1)) * 405 + 405) (by omega) (by omega) ?_
                                                                      exact hJ315 _ (Option.some.inj ho315).symm _ _ _ hw (lv_sub hl [0, 1, 2, 3] rfl)
                                                                    · have ho315 := oi_f ho315 c551
                                                                      refine lv_iconst (v := iI 0) hx hb dL_law_1128 rfl ?_
                                                                      exact absurd (congrArg Prod.fst (Option.some.inj (hT315 _ (Option.some.inj ho315).symm))) (show ¬ iI 0 = iI 1 by decide)
                                                                  · have ho315 := oi_f ho315 c345
                                                                    by_cases c346 : (v314 &&& (iI 63)) = iI 30
                                                                    · have ho315 := oi_t ho315 c346
                                                                      refine lv_tableIn (off := 1098) (tgt := 1130) hx hb dL_law_32 (by rw [ep_swIn c346 (by decide)]; decide) (by rw [ep_swIn c346 (by decide)]; decide) (by rw [ep_swIn c346 (by decide)]; rfl) (by decide) ?_
                                                                      refine lv_aload_n hx hb dL_law_1130 rfl (lv_at hl 1 rfl) ?_
                                                                      refine lv_aload_n hx hb dL_law_1131 rfl (lv_at hl 0 rfl) ?_
                                                                      refine lv_iload_n hx hb dL_law_1132 rfl (lv_at hl 3 rfl) ?_
                                                                      refine lv_iconst (v := iI 1) hx hb dL_law_1133 rfl ?_
                                                                      refine lv_iadd hx hb dL_law_1134 ?_
                                                                      obtain ⟨v552, ev552, ho315⟩ := ob_s ho315
                                                                      refine ep_sX hx hb hX hbl hbA hw ev552 dL_law_1135 ?_
                                                                      obtain ⟨o553, eo553, ho315⟩ := ob_s ho315
                                                                      refine ep_calli0 (va_runV (As := [.int v552]) (rest := []) ⟨hx, hb, hml, hown, hts⟩ (metX0_fits l G h h0.1 v552 eo553) (cwV 1 hts (lw_V q840 q841 q842 q85 q843) rfl rfl rfl hdX0_fits ⟨Nat.le_of_ble_eq_true rfl, Nat.le_of_ble_eq_true rfl⟩) (ep_preV hK hZ hw rfl (ckX0_fits eo553)) rfl rfl hl.1 rfl (lv_room (Nat.le_of_ble_eq_true rfl)) dL_law_1136 ⟨by dsimp only [room_1]; omega, by dsimp only [room_1]; omega⟩) hw (fun H locs hw => ?_)
                                                                      refine lv_aload_n hx hb dL_law_1139 rfl (lv_at hl 2 rfl) ?_
                                                                      refine lv_aload_n hx hb dL_law_1140 rfl (lv_at hl 0 rfl) ?_
                                                                      refine lv_iload_n hx hb dL_law_1141 rfl (lv_at hl 3 rfl) ?_
                                                                      refine lv_iconst (v := iI 1) hx hb dL_law_1142 rfl ?_
                                                                      refine lv_iadd hx hb dL_law_1143 ?_
                                                                      obtain ⟨v554, ev554, ho315⟩ := ob_s ho315
                                                                      refine ep_sX hx hb hX hbl hbA hw ev554 dL_law_1144 ?_
                                                                      obtain ⟨o555, eo555, ho315⟩ := ob_s ho315
                                                                      refine ep_calli0 (va_runV (As := [.int v554]) (rest := [.int o553.1]) ⟨hx, hb, hml, hown, hts⟩ (metX4_fits l G o553.2 o2.1 v554 eo555) (cwV 1 hts (lw_V q1578 q1579 q1580 q89 q1581) rfl rfl rfl hdX4_fits ⟨Nat.le_of_ble_eq_true rfl, Nat.le_of_ble_eq_true rfl⟩) (ep_preV hK hZ hw rfl (ckX4_fits eo555)) rfl rfl hl.1 rfl (lv_room (Nat.le_of_ble_eq_true rfl)) dL_law_1145 ⟨by dsimp only [room_1]; omega, by dsimp only [room_1]; omega⟩) hw (fun H locs hw => ?_)
                                                                      refine lv_icmp_eq (tgt := 1450) hx hb dL_law_1148 (by decide) (fun c556 => ?_) (fun c556 => ?_)
                                                                      · have ho315 := oi_t ho315 c556
                                                                        refine W.widen (k := 129 + (65 - (fu + 1)) * 51 + 51) (n := 1789 + (65 - (fu + 1)) * 405 + 405) (by omega) (by omega) ?_
                                                                        exact hJ315 _ (Option.some.inj ho315).symm _ _ _ hw (lv_sub hl [0, 1, 2, 3] rfl)
                                                                      · have ho315 := oi_f ho315 c556
                                                                        refine lv_iconst (v := iI 0) hx hb dL_law_1151 rfl ?_
                                                                        exact absurd (congrArg Prod.fst (Option.some.inj (hT315 _ (Option.some.inj ho315).symm))) (show ¬ iI 0 = iI 1 by decide)
                                                                    · have ho315 := oi_f ho315 c346
                                                                      by_cases c347 : (v314 &&& (iI 63)) = iI 31
                                                                      · have ho315 := oi_t ho315 c347
                                                                        refine lv_tableIn (off := 1121) (tgt := 1153) hx hb dL_law_32 (by rw [ep_swIn c347 (by decide)]; decide) (by rw [ep_swIn c347 (by decide)]; decide) (by rw [ep_swIn c347 (by decide)]; rfl) (by decide) ?_
                                                                        refine lv_aload_n hx hb dL_law_1153 rfl (lv_at hl 1 rfl) ?_
                                                                        refine lv_aload_n hx hb dL_law_1154 rfl (lv_at hl 0 rfl) ?_
                                                                        refine lv_iload_n hx hb dL_law_1155 rfl (lv_at hl 3 rfl) ?_
                                                                        refine lv_iconst (v := iI 1) hx hb dL_law_1156 rfl ?_
                                                                        refine lv_iadd hx hb dL_law_1157 ?_
                                                                        obtain ⟨v557, ev557, ho315⟩ := ob_s ho315
                                                                        refine ep_sX hx hb hX hbl hbA hw ev557 dL_law_1158 ?_
                                                                        refine lv_aload_n hx hb dL_law_1159 rfl (lv_at hl 0 rfl) ?_
                                                                        refine lv_iload_n hx hb dL_law_1160 rfl (lv_at hl 3 rfl) ?_
                                                                        refine lv_iconst (v := iI 2) hx hb dL_law_1161 rfl ?_
                                                                        refine lv_iadd hx hb dL_law_1162 ?_
                                                                        obtain ⟨v558, ev558, ho315⟩ := ob_s ho315
                                                                        refine ep_sX hx hb hX hbl hbA hw ev558 dL_law_1163 ?_
                                                                        obtain ⟨o559, eo559, ho315⟩ := ob_s ho315
                                                                        refine ep_calli0 (va_runV (As := [.int v557, .int v558]) (rest := []) ⟨hx, hb, hml, hown, hts⟩ (metX0_listen l G h h0.1 v557 v558 eo559) (cwV 2 hts (lw_V q844 q845 q846 q85 q847) rfl rfl rfl hdX0_listen ⟨Nat.le_of_ble_eq_true rfl, Nat.le_of_ble_eq_true rfl⟩) (ep_preV hK hZ hw rfl (ckX0_listen eo559)) rfl rfl hl.1 rfl (lv_room (Nat.le_of_ble_eq_true rfl)) dL_law_1164 ⟨by dsimp only [room_1]; omega, by dsimp only [room_1]; omega⟩) hw (fun H locs hw => ?_)
                                                                        refine lv_aload_n hx hb dL_law_1167 rfl (lv_at hl 2 rfl) ?_
                                                                        refine lv_aload_n hx hb dL_law_1168 rfl (lv_at hl 0 rfl) ?_
                                                                        refine lv_iload_n hx hb dL_law_1169 rfl (lv_at hl 3 rfl) ?_
                                                                        refine lv_iconst (v := iI 1) hx hb dL_law_1170 rfl ?_
                                                                        refine lv_iadd hx hb dL_law_1171 ?_
                                                                        obtain ⟨v560, ev560, ho315⟩ := ob_s ho315
                                                                        refine ep_sX hx hb hX hbl hbA hw ev560 dL_law_1172 ?_
                                                                        refine lv_aload_n hx hb dL_law_1173 rfl (lv_at hl 0 rfl) ?_
                                                                        refine lv_iload_n hx hb dL_law_1174 rfl (lv_at hl 3 rfl) ?_
                                                                        refine lv_iconst (v := iI 2) hx hb dL_law_1175 rfl ?_
                                                                        refine lv_iadd hx hb dL_law_1176 ?_
                                                                        obtain ⟨v561, ev561, ho315⟩ := ob_s ho315
                                                                        refine ep_sX hx hb hX hbl hbA hw ev561 dL_law_1177 ?_
                                                                        obtain ⟨o562, eo562, ho315⟩ := ob_s ho315
                                                                        refine ep_calli0 (va_runV (As := [.int v560, .int v561]) (rest := [.int o559.1]) ⟨hx, hb, hml, hown, hts⟩ (metX4_listen l G o559.2 o2.1 v560 v561 eo562) (cwV 2 hts (lw_V q1586 q1587 q1588 q89 q1589) rfl rfl rfl hdX4_listen ⟨Nat.le_of_ble_eq_true rfl, Nat.le_of_ble_eq_true rfl⟩) (ep_preV hK hZ hw rfl (ckX4_listen eo562)) rfl rfl hl.1 rfl (lv_room (Nat.le_of_ble_eq_true rfl)) dL_law_1178 ⟨by dsimp only [room_1]; omega, by dsimp only [room_1]; omega⟩) hw (fun H locs hw => ?_)
                                                                        refine lv_icmp_eq (tgt := 1450) hx hb dL_law_1181 (by decide) (fun c563 => ?_) (fun c563 => ?_)
                                                                        · have ho315 := oi_t ho315 c563
                                                                          refine W.widen (k := 129 + (65 - (fu + 1)) * 51 + 51) (n := 1789 + (65 - (fu + 1)) * 405 + 405) (by omega) (by omega) ?_
                                                                          exact hJ315 _ (Option.some.inj ho315).symm _ _ _ hw (lv_sub hl [0, 1, 2, 3] rfl)
                                                                        · have ho315 := oi_f ho315 c563
                                                                          refine lv_iconst (v := iI 0) hx hb dL_law_1184 rfl ?_
                                                                          exact absurd (congrArg Prod.fst (Option.some.inj (hT315 _ (Option.some.inj ho315).symm))) (show ¬ iI 0 = iI 1 by decide)
                                                                      · have ho315 := oi_f ho315 c347
                                                                        by_cases c348 : (v314 &&& (iI 63)) = iI 32
                                                                        · have ho315 := oi_t ho315 c348
                                                                          refine lv_tableIn (off := 1154) (tgt := 1186) hx hb dL_law_32 (by rw [ep_swIn c348 (by decide)]; decide) (by rw [ep_swIn c348 (by decide)]; decide) (by rw [ep_swIn c348 (by decide)]; rfl) (by decide) ?_
                                                                          refine lv_aload_n hx hb dL_law_1186 rfl (lv_at hl 1 rfl) ?_
                                                                          refine lv_aload_n hx hb dL_law_1187 rfl (lv_at hl 0 rfl) ?_
                                                                          refine lv_iload_n hx hb dL_law_1188 rfl (lv_at hl 3 rfl) ?_
                                                                          refine lv_iconst (v := iI 1) hx hb dL_law_1189 rfl ?_
                                                                          refine lv_iadd hx hb dL_law_1190 ?_
                                                                          obtain ⟨v564, ev564, ho315⟩ := ob_s ho315
                                                                          refine ep_sX hx hb hX hbl hbA hw ev564 dL_law_1191 ?_
                                                                          refine lv_aload_n hx hb dL_law_1192 rfl (lv_at hl 0 rfl) ?_
                                                                          refine lv_iload_n hx hb dL_law_1193 rfl (lv_at hl 3 rfl) ?_
                                                                          refine lv_iconst (v := iI 2) hx hb dL_law_1194 rfl ?_
                                                                          refine lv_iadd hx hb dL_law_1195 ?_
                                                                          obtain ⟨v565, ev565, ho315⟩ := ob_s ho315
                                                                          refine ep_sX hx hb hX hbl hbA hw ev565 dL_law_1196 ?_
                                                                          refine lv_aload_n hx hb dL_law_1197 rfl (lv_at hl 0 rfl) ?_
                                                                          refine lv_iload_n hx hb dL_law_1198 rfl (lv_at hl 3 rfl) ?_
                                                                          refine lv_iconst (v := iI 3) hx hb dL_law_1199 rfl ?_
                                                                          refine lv_iadd hx hb dL_law_1200 ?_
                                                                          obtain ⟨v566, ev566, ho315⟩ := ob_s ho315
                                                                          refine ep_sX hx hb hX hbl hbA hw ev566 dL_law_1201 ?_
                                                                          obtain ⟨o567, eo567, ho315⟩ := ob_s ho315
                                                                          refine ep_calli0 (va_runV (As := [.int v564, .int v565, .int v566]) (rest := []) ⟨hx, hb, hml, hown, hts⟩ (metX0_drift l G h h0.1 v564 v565 v566 eo567) (cwV 3 hts (lw_V q848 q849 q850 q85 q851) rfl rfl rfl hdX0_drift ⟨Nat.le_of_ble_eq_true rfl, Nat.le_of_ble_eq_true rfl⟩) (ep_preV hK hZ hw rfl (ckX0_drift eo567)) rfl rfl hl.1 rfl (lv_room (Nat.le_of_ble_eq_true rfl)) dL_law_1202 ⟨by dsimp only [room_1]; omega, by dsimp only [room_1]; omega⟩) hw (fun H locs hw => ?_)
                                                                          refine lv_aload_n hx hb dL_law_1205 rfl (lv_at hl 2 rfl) ?_
                                                                          refine lv_aload_n hx hb dL_law_1206 rfl (lv_at hl 0 rfl) ?_
                                                                          refine lv_iload_n hx hb dL_law_1207 rfl (lv_at hl 3 rfl) ?_
                                                                          refine lv_iconst (v := iI 1) hx hb dL_law_1208 rfl ?_
                                                                          refine lv_iadd hx hb dL_law_1209 ?_
                                                                          obtain ⟨v568, ev568, ho315⟩ := ob_s ho315
                                                                          refine ep_sX hx hb hX hbl hbA hw ev568 dL_law_1210 ?_
                                                                          refine lv_aload_n hx hb dL_law_1211 rfl (lv_at hl 0 rfl) ?_
                                                                          refine lv_iload_n hx hb dL_law_1212 rfl (lv_at hl 3 rfl) ?_
                                                                          refine lv_iconst (v := iI 2) hx hb dL_law_1213 rfl ?_
                                                                          refine lv_iadd hx hb dL_law_1214 ?_
                                                                          obtain ⟨v569, ev569, ho315⟩ := ob_s ho315
                                                                          refine ep_sX hx hb hX hbl hbA hw ev569 dL_law_1215 ?_
                                                                          refine lv_aload_n hx hb dL_law_1216 rfl (lv_at hl 0 rfl) ?_
                                                                          refine lv_iload_n hx hb dL_law_1217 rfl (lv_at hl 3 rfl) ?_
                                                                          refine lv_iconst (v := iI 3) hx hb dL_law_1218 rfl ?_
                                                                          refine lv_iadd hx hb dL_law_1219 ?_
                                                                          obtain ⟨v570, ev570, ho315⟩ := ob_s ho315
                                                                          refine ep_sX hx hb hX hbl hbA hw ev570 dL_law_1220 ?_
                                                                          obtain ⟨o571, eo571, ho315⟩ := ob_s ho315
                                                                          refine ep_calli0 (va_runV (As := [.int v568, .int v569, .int v570]) (rest := [.int o567.1]) ⟨hx, hb, hml, hown, hts⟩ (metX4_drift l G o567.2 o2.1 v568 v569 v570 eo571) (cwV 3 hts (lw_V q1590 q1591 q1592 q89 q1593) rfl rfl rfl hdX4_drift ⟨Nat.le_of_ble_eq_true rfl, Nat.le_of_ble_eq_true rfl⟩) (ep_preV hK hZ hw rfl (ckX4_drift eo571)) rfl rfl hl.1 rfl (lv_room (Nat.le_of_ble_eq_true rfl)) dL_law_1221 ⟨by dsimp only [room_1]; omega, by dsimp only [room_1]; omega⟩) hw (fun H locs hw => ?_)
                                                                          refine lv_icmp_eq (tgt := 1450) hx hb dL_law_1224 (by decide) (fun c572 => ?_) (fun c572 => ?_)
                                                                          · have ho315 := oi_t ho315 c572
                                                                            refine W.widen (k := 129 + (65 - (fu + 1)) * 51 + 51) (n := 1789 + (65 - (fu + 1)) * 405 + 405) (by omega) (by omega) ?_
                                                                            exact hJ315 _ (Option.some.inj ho315).symm _ _ _ hw (lv_sub hl [0, 1, 2, 3] rfl)
                                                                          · have ho315 := oi_f ho315 c572
                                                                            refine lv_iconst (v := iI 0) hx hb dL_law_1227 rfl ?_
                                                                            exact absurd (congrArg Prod.fst (Option.some.inj (hT315 _ (Option.some.inj ho315).symm))) (show ¬ iI 0 = iI 1 by decide)
                                                                        · have ho315 := oi_f ho315 c348
                                                                          by_cases c349 : (v314 &&& (iI 63)) = iI 33
                                                                          · have ho315 := oi_t ho315 c349
                                                                            refine lv_tableIn (off := 1197) (tgt := 1229) hx hb dL_law_32 (by rw [ep_swIn c349 (by decide)]; decide) (by rw [ep_swIn c349 (by decide)]; decide) (by rw [ep_swIn c349 (by decide)]; rfl) (by decide) ?_
                                                                            refine lv_aload_n hx hb dL_law_1229 rfl (lv_at hl 1 rfl) ?_
                                                                            refine lv_aload_n hx hb dL_law_1230 rfl (lv_at hl 0 rfl) ?_
                                                                            refine lv_iload_n hx hb dL_law_1231 rfl (lv_at hl 3 rfl) ?_
                                                                            refine lv_iconst (v := iI 1) hx hb dL_law_1232 rfl ?_
                                                                            refine lv_iadd hx hb dL_law_1233 ?_
                                                                            obtain ⟨v573, ev573, ho315⟩ := ob_s ho315
                                                                            refine ep_sX hx hb hX hbl hbA hw ev573 dL_law_1234 ?_
                                                                            obtain ⟨o574, eo574, ho315⟩ := ob_s ho315
                                                                            refine ep_calli0 (va_runV (As := [.int v573]) (rest := []) ⟨hx, hb, hml, hown, hts⟩ (metX0_keep l G h h0.1 v573 eo574) (cwV 1 hts (lw_V q856 q857 q858 q85 q859) rfl rfl rfl hdX0_keep ⟨Nat.le_of_ble_eq_true rfl, Nat.le_of_ble_eq_true rfl⟩) (ep_preV hK hZ hw rfl (ckX0_keep eo574)) rfl rfl hl.1 rfl (lv_room (Nat.le_of_ble_eq_true rfl)) dL_law_1235 ⟨by dsimp only [room_1]; omega, by dsimp only [room_1]; omega⟩) hw (fun H locs hw => ?_)
                                                                            refine lv_aload_n hx hb dL_law_1238 rfl (lv_at hl 2 rfl) ?_
                                                                            refine lv_aload_n hx hb dL_law_1239 rfl (lv_at hl 0 rfl) ?_
                                                                            refine lv_iload_n hx hb dL_law_1240 rfl (lv_at hl 3 rfl) ?_
                                                                            refine lv_iconst (v := iI 1) hx hb dL_law_1241 rfl ?_
                                                                            refine lv_iadd hx hb dL_law_1242 ?_
                                                                            obtain ⟨v575, ev575, ho315⟩ := ob_s ho315
                                                                            refine ep_sX hx hb hX hbl hbA hw ev575 dL_law_1243 ?_
                                                                            obtain ⟨o576, eo576, ho315⟩ := ob_s ho315
                                                                            refine ep_calli0 (va_runV (As := [.int v575]) (rest := [.int o574.1]) ⟨hx, hb, hml, hown, hts⟩ (metX4_keep l G o574.2 o2.1 v575 eo576) (cwV 1 hts (lw_V q1599 q1600 q1601 q89 q1602) rfl rfl rfl hdX4_keep ⟨Nat.le_of_ble_eq_true rfl, Nat.le_of_ble_eq_true rfl⟩) (ep_preV hK hZ hw rfl (ckX4_keep eo576)) rfl rfl hl.1 rfl (lv_room (Nat.le_of_ble_eq_true rfl)) dL_law_1244 ⟨by dsimp only [room_1]; omega, by dsimp only [room_1]; omega⟩) hw (fun H locs hw => ?_)
                                                                            refine lv_icmp_eq (tgt := 1450) hx hb dL_law_1247 (by decide) (fun c577 => ?_) (fun c577 => ?_)
                                                                            · have ho315 := oi_t ho315 c577
                                                                              refine W.widen (k := 129 + (65 - (fu + 1)) * 51 + 51) (n := 1789 + (65 - (fu + 1)) * 405 + 405) (by omega) (by omega) ?_
                                                                              exact hJ315 _ (Option.some.inj ho315).symm _ _ _ hw (lv_sub hl [0, 1, 2, 3] rfl)
                                                                            · have ho315 := oi_f ho315 c577
                                                                              refine lv_iconst (v := iI 0) hx hb dL_law_1250 rfl ?_
                                                                              exact absurd (congrArg Prod.fst (Option.some.inj (hT315 _ (Option.some.inj ho315).symm))) (show ¬ iI 0 = iI 1 by decide)
                                                                          · have ho315 := oi_f ho315 c349
                                                                            by_cases c350 : (v314 &&& (iI 63)) = iI 34
                                                                            · have ho315 := oi_t ho315 c350
                                                                              refine lv_tableIn (off := 1220) (tgt := 1252) hx hb dL_law_32 (by rw [ep_swIn c350 (by decide)]; decide) (by rw [ep_swIn c350 (by decide)]; decide) (by rw [ep_swIn c350 (by decide)]; rfl) (by decide) ?_
                                                                              refine lv_aload_n hx hb dL_law_1252 rfl (lv_at hl 1 rfl) ?_
                                                                              refine lv_aload_n hx hb dL_law_1253 rfl (lv_at hl 0 rfl) ?_
                                                                              refine lv_iload_n hx hb dL_law_1254 rfl (lv_at hl 3 rfl) ?_
                                                                              refine lv_iconst (v := iI 1) hx hb dL_law_1255 rfl ?_
                                                                              refine lv_iadd hx hb dL_law_1256 ?_
                                                                              obtain ⟨v578, ev578, ho315⟩ := ob_s ho315
                                                                              refine ep_sX hx hb hX hbl hbA hw ev578 dL_law_1257 ?_
                                                                              obtain ⟨o579, eo579, ho315⟩ := ob_s ho315
                                                                              refine ep_calli0 (va_runV (As := [.int v578]) (rest := []) ⟨hx, hb, hml, hown, hts⟩ (metX0_back l G h h0.1 v578 eo579) (cwV 1 hts (lw_V q868 q869 q870 q85 q871) rfl rfl rfl hdX0_back ⟨Nat.le_of_ble_eq_true rfl, Nat.le_of_ble_eq_true rfl⟩) (ep_preV hK hZ hw rfl (ckX0_back eo579)) rfl rfl hl.1 rfl (lv_room (Nat.le_of_ble_eq_true rfl)) dL_law_1258 ⟨by dsimp only [room_1]; omega, by dsimp only [room_1]; omega⟩) hw (fun H locs hw => ?_)
                                                                              refine lv_aload_n hx hb dL_law_1261 rfl (lv_at hl 2 rfl) ?_
                                                                              refine lv_aload_n hx hb dL_law_1262 rfl (lv_at hl 0 rfl) ?_
                                                                              refine lv_iload_n hx hb dL_law_1263 rfl (lv_at hl 3 rfl) ?_
                                                                              refine lv_iconst (v := iI 1) hx hb dL_law_1264 rfl ?_
                                                                              refine lv_iadd hx hb dL_law_1265 ?_
                                                                              obtain ⟨v580, ev580, ho315⟩ := ob_s ho315
                                                                              refine ep_sX hx hb hX hbl hbA hw ev580 dL_law_1266 ?_
                                                                              obtain ⟨o581, eo581, ho315⟩ := ob_s ho315
                                                                              refine ep_calli0 (va_runV (As := [.int v580]) (rest := [.int o579.1]) ⟨hx, hb, hml, hown, hts⟩ (metX4_back l G o579.2 o2.1 v580 eo581) (cwV 1 hts (lw_V q1607 q1608 q1609 q89 q1610) rfl rfl rfl hdX4_back ⟨Nat.le_of_ble_eq_true rfl, Nat.le_of_ble_eq_true rfl⟩) (ep_preV hK hZ hw rfl (ckX4_back eo581)) rfl rfl hl.1 rfl (lv_room (Nat.le_of_ble_eq_true rfl)) dL_law_1267 ⟨by dsimp only [room_1]; omega, by dsimp only [room_1]; omega⟩) hw (fun H locs hw => ?_)
                                                                              refine lv_icmp_eq (tgt := 1450) hx hb dL_law_1270 (by decide) (fun c582 => ?_) (fun c582 => ?_)
                                                                              · have ho315 := oi_t ho315 c582
                                                                                refine W.widen (k := 129 + (65 - (fu + 1)) * 51 + 51) (n := 1789 + (65 - (fu + 1)) * 405 + 405) (by omega) (by omega) ?_
                                                                                exact hJ315 _ (Option.some.inj ho315).symm _ _ _ hw (lv_sub hl [0, 1, 2, 3] rfl)
                                                                              · have ho315 := oi_f ho315 c582
                                                                                refine lv_iconst (v := iI 0) hx hb dL_law_1273 rfl ?_
                                                                                exact absurd (congrArg Prod.fst (Option.some.inj (hT315 _ (Option.some.inj ho315).symm))) (show ¬ iI 0 = iI 1 by decide)
                                                                            · have ho315 := oi_f ho315 c350
                                                                              by_cases c351 : (v314 &&& (iI 63)) = iI 35
                                                                              · have ho315 := oi_t ho315 c351
                                                                                refine lv_tableIn (off := 1243) (tgt := 1275) hx hb dL_law_32 (by rw [ep_swIn c351 (by decide)]; decide) (by rw [ep_swIn c351 (by decide)]; decide) (by rw [ep_swIn c351 (by decide)]; rfl) (by decide) ?_
                                                                                refine lv_aload_n hx hb dL_law_1275 rfl (lv_at hl 1 rfl) ?_
                                                                                refine lv_aload_n hx hb dL_law_1276 rfl (lv_at hl 0 rfl) ?_
                                                                                refine lv_iload_n hx hb dL_law_1277 rfl (lv_at hl 3 rfl) ?_
                                                                                refine lv_iconst (v := iI 1) hx hb dL_law_1278 rfl ?_
                                                                                refine lv_iadd hx hb dL_law_1279 ?_
                                                                                obtain ⟨v583, ev583, ho315⟩ := ob_s ho315
                                                                                refine ep_sX hx hb hX hbl hbA hw ev583 dL_law_1280 ?_
                                                                                refine lv_aload_n hx hb dL_law_1281 rfl (lv_at hl 0 rfl) ?_
                                                                                refine lv_iload_n hx hb dL_law_1282 rfl (lv_at hl 3 rfl) ?_
                                                                                refine lv_iconst (v := iI 2) hx hb dL_law_1283 rfl ?_
                                                                                refine lv_iadd hx hb dL_law_1284 ?_
                                                                                obtain ⟨v584, ev584, ho315⟩ := ob_s ho315
                                                                                refine ep_sX hx hb hX hbl hbA hw ev584 dL_law_1285 ?_
                                                                                refine lv_aload_n hx hb dL_law_1286 rfl (lv_at hl 0 rfl) ?_
                                                                                refine lv_iload_n hx hb dL_law_1287 rfl (lv_at hl 3 rfl) ?_
                                                                                refine lv_iconst (v := iI 3) hx hb dL_law_1288 rfl ?_
                                                                                refine lv_iadd hx hb dL_law_1289 ?_
                                                                                obtain ⟨v585, ev585, ho315⟩ := ob_s ho315
                                                                                refine ep_sX hx hb hX hbl hbA hw ev585 dL_law_1290 ?_
                                                                                obtain ⟨o586, eo586, ho315⟩ := ob_s ho315
                                                                                refine ep_calli (ep_runVW (As := [.int v583, .int v584, .int v585]) (rest := []) ⟨hx, hb, hml, hown, hts⟩ (metX0_sheet l hfl G h h0.1 v583 v584 v585 eo586) rfl rfl ⟨Nat.le_of_ble_eq_true rfl, Nat.le_of_ble_eq_true rfl⟩ q1005 q1006 q1007 q85 q1008 hdX0_sheet.2 (ep_preV hK hZ hw rfl (ckX0_sheet eo586)) rfl rfl hl.1 rfl (lv_room (Nat.le_of_ble_eq_true rfl)) dL_law_1291 ⟨by dsimp only [room_1]; omega, by dsimp only [room_1]; omega⟩) hw (fun H locs hw => ?_)
                                                                                refine lv_aload_n hx hb dL_law_1294 rfl (lv_at hl 2 rfl) ?_
                                                                                refine lv_aload_n hx hb dL_law_1295 rfl (lv_at hl 0 rfl) ?_
                                                                                refine lv_iload_n hx hb dL_law_1296 rfl (lv_at hl 3 rfl) ?_
                                                                                refine lv_iconst (v := iI 1) hx hb dL_law_1297 rfl ?_
                                                                                refine lv_iadd hx hb dL_law_1298 ?_
                                                                                obtain ⟨v587, ev587, ho315⟩ := ob_s ho315
                                                                                refine ep_sX hx hb hX hbl hbA hw ev587 dL_law_1299 ?_
                                                                                refine lv_aload_n hx hb dL_law_1300 rfl (lv_at hl 0 rfl) ?_
                                                                                refine lv_iload_n hx hb dL_law_1301 rfl (lv_at hl 3 rfl) ?_
                                                                                refine lv_iconst (v := iI 2) hx hb dL_law_1302 rfl ?_
                                                                                refine lv_iadd hx hb dL_law_1303 ?_
                                                                                obtain ⟨v588, ev588, ho315⟩ := ob_s ho315
                                                                                refine ep_sX hx hb hX hbl hbA hw ev588 dL_law_1304 ?_
                                                                                refine lv_aload_n hx hb dL_law_1305 rfl (lv_at hl 0 rfl) ?_
                                                                                refine lv_iload_n hx hb dL_law_1306 rfl (lv_at hl 3 rfl) ?_
                                                                                refine lv_iconst (v := iI 3) hx hb dL_law_1307 rfl ?_
                                                                                refine lv_iadd hx hb dL_law_1308 ?_
                                                                                obtain ⟨v589, ev589, ho315⟩ := ob_s ho315
                                                                                refine ep_sX hx hb hX hbl hbA hw ev589 dL_law_1309 ?_
                                                                                obtain ⟨o590, eo590, ho315⟩ := ob_s ho315
                                                                                refine ep_calli0 (va_runV (As := [.int v587, .int v588, .int v589]) (rest := [.int o586.1]) ⟨hx, hb, hml, hown, hts⟩ (metX4_sheet l G o586.2 o2.1 v587 v588 v589 eo590) (cwV 3 hts (lw_V q1611 q1612 q1613 q89 q1614) rfl rfl rfl hdX4_sheet ⟨Nat.le_of_ble_eq_true rfl, Nat.le_of_ble_eq_true rfl⟩) (ep_preV hK hZ hw rfl (ckX4_sheet eo590)) rfl rfl hl.1 rfl (lv_room (Nat.le_of_ble_eq_true rfl)) dL_law_1310 ⟨by dsimp only [room_1]; omega, by dsimp only [room_1]; omega⟩) hw (fun H locs hw => ?_)
                                                                                refine lv_icmp_eq (tgt := 1450) hx hb dL_law_1313 (by decide) (fun c591 => ?_) (fun c591 => ?_)
                                                                                · have ho315 := oi_t ho315 c591
                                                                                  refine W.widen (k := 129 + (65 - (fu + 1)) * 51 + 51) (n := 1789 + (65 - (fu + 1)) * 405 + 405) (by omega) (by omega) ?_
                                                                                  exact hJ315 _ (Option.some.inj ho315).symm _ _ _ hw (lv_sub hl [0, 1, 2, 3] rfl)
                                                                                · have ho315 := oi_f ho315 c591
                                                                                  refine lv_iconst (v := iI 0) hx hb dL_law_1316 rfl ?_
                                                                                  exact absurd (congrArg Prod.fst (Option.some.inj (hT315 _ (Option.some.inj ho315).symm))) (show ¬ iI 0 = iI 1 by decide)
                                                                              · have ho315 := oi_f ho315 c351
                                                                                by_cases c352 : (v314 &&& (iI 63)) = iI 36
                                                                                · have ho315 := oi_t ho315 c352
                                                                                  refine lv_tableIn (off := 1286) (tgt := 1318) hx hb dL_law_32 (by rw [ep_swIn c352 (by decide)]; decide) (by rw [ep_swIn c352 (by decide)]; decide) (by rw [ep_swIn c352 (by decide)]; rfl) (by decide) ?_
                                                                                  refine lv_aload_n hx hb dL_law_1318 rfl (lv_at hl 1 rfl) ?_
                                                                                  refine lv_aload_n hx hb dL_law_1319 rfl (lv_at hl 0 rfl) ?_
                                                                                  refine lv_iload_n hx hb dL_law_1320 rfl (lv_at hl 3 rfl) ?_
                                                                                  refine lv_iconst (v := iI 1) hx hb dL_law_1321 rfl ?_
                                                                                  refine lv_iadd hx hb dL_law_1322 ?_
                                                                                  obtain ⟨v592, ev592, ho315⟩ := ob_s ho315
                                                                                  refine ep_sX hx hb hX hbl hbA hw ev592 dL_law_1323 ?_
                                                                                  refine lv_aload_n hx hb dL_law_1324 rfl (lv_at hl 0 rfl) ?_
                                                                                  refine lv_iload_n hx hb dL_law_1325 rfl (lv_at hl 3 rfl) ?_
                                                                                  refine lv_iconst (v := iI 2) hx hb dL_law_1326 rfl ?_
                                                                                  refine lv_iadd hx hb dL_law_1327 ?_
                                                                                  obtain ⟨v593, ev593, ho315⟩ := ob_s ho315
                                                                                  refine ep_sX hx hb hX hbl hbA hw ev593 dL_law_1328 ?_
                                                                                  refine lv_aload_n hx hb dL_law_1329 rfl (lv_at hl 0 rfl) ?_
                                                                                  refine lv_iload_n hx hb dL_law_1330 rfl (lv_at hl 3 rfl) ?_
                                                                                  refine lv_iconst (v := iI 3) hx hb dL_law_1331 rfl ?_
                                                                                  refine lv_iadd hx hb dL_law_1332 ?_
                                                                                  obtain ⟨v594, ev594, ho315⟩ := ob_s ho315
                                                                                  refine ep_sX hx hb hX hbl hbA hw ev594 dL_law_1333 ?_
                                                                                  obtain ⟨o595, eo595, ho315⟩ := ob_s ho315
                                                                                  refine ep_calli (ep_runVW (As := [.int v592, .int v593, .int v594]) (rest := []) ⟨hx, hb, hml, hown, hts⟩ (metX0_lay l hfl G h h0.1 v592 v593 v594 eo595) rfl rfl ⟨Nat.le_of_ble_eq_true rfl, Nat.le_of_ble_eq_true rfl⟩ q1040 q1041 q1042 q85 q1043 hdX0_lay.2 (ep_preV hK hZ hw rfl (ckX0_lay eo595)) rfl rfl hl.1 rfl (lv_room (Nat.le_of_ble_eq_true rfl)) dL_law_1334 ⟨by dsimp only [room_1]; omega, by dsimp only [room_1]; omega⟩) hw (fun H locs hw => ?_)
                                                                                  refine lv_aload_n hx hb dL_law_1337 rfl (lv_at hl 2 rfl) ?_
                                                                                  refine lv_aload_n hx hb dL_law_1338 rfl (lv_at hl 0 rfl) ?_
                                                                                  refine lv_iload_n hx hb dL_law_1339 rfl (lv_at hl 3 rfl) ?_
                                                                                  refine lv_iconst (v := iI 1) hx hb dL_law_1340 rfl ?_
                                                                                  refine lv_iadd hx hb dL_law_1341 ?_
                                                                                  obtain ⟨v596, ev596, ho315⟩ := ob_s ho315
                                                                                  refine ep_sX hx hb hX hbl hbA hw ev596 dL_law_1342 ?_
                                                                                  refine lv_aload_n hx hb dL_law_1343 rfl (lv_at hl 0 rfl) ?_
                                                                                  refine lv_iload_n hx hb dL_law_1344 rfl (lv_at hl 3 rfl) ?_
                                                                                  refine lv_iconst (v := iI 2) hx hb dL_law_1345 rfl ?_
                                                                                  refine lv_iadd hx hb dL_law_1346 ?_
                                                                                  obtain ⟨v597, ev597, ho315⟩ := ob_s ho315
                                                                                  refine ep_sX hx hb hX hbl hbA hw ev597 dL_law_1347 ?_
                                                                                  refine lv_aload_n hx hb dL_law_1348 rfl (lv_at hl 0 rfl) ?_
                                                                                  refine lv_iload_n hx hb dL_law_1349 rfl (lv_at hl 3 rfl) ?_
                                                                                  refine lv_iconst (v := iI 3) hx hb dL_law_1350 rfl ?_
                                                                                  refine lv_iadd hx hb dL_law_1351 ?_
                                                                                  obtain ⟨v598, ev598, ho315⟩ := ob_s ho315
                                                                                  refine ep_sX hx hb hX hbl hbA hw ev598 dL_law_1352 ?_
                                                                                  obtain ⟨o599, eo599, ho315⟩ := ob_s ho315
                                                                                  refine ep_calli0 (va_runV (As := [.int v596, .int v597, .int v598]) (rest := [.int o595.1]) ⟨hx, hb, hml, hown, hts⟩ (metX4_lay l G o595.2 o2.1 v596 v597 v598 eo599) (cwV 3 hts (lw_V q1618 q1619 q1620 q89 q1621) rfl rfl rfl hdX4_lay ⟨Nat.le_of_ble_eq_true rfl, Nat.le_of_ble_eq_true rfl⟩) (ep_preV hK hZ hw rfl (ckX4_lay eo599)) rfl rfl hl.1 rfl (lv_room (Nat.le_of_ble_eq_true rfl)) dL_law_1353 ⟨by dsimp only [room_1]; omega, by dsimp only [room_1]; omega⟩) hw (fun H locs hw => ?_)
                                                                                  refine lv_icmp_eq (tgt := 1450) hx hb dL_law_1356 (by decide) (fun c600 => ?_) (fun c600 => ?_)
                                                                                  · have ho315 := oi_t ho315 c600
                                                                                    refine W.widen (k := 129 + (65 - (fu + 1)) * 51 + 51) (n := 1789 + (65 - (fu + 1)) * 405 + 405) (by omega) (by omega) ?_
                                                                                    exact hJ315 _ (Option.some.inj ho315).symm _ _ _ hw (lv_sub hl [0, 1, 2, 3] rfl)
                                                                                  · have ho315 := oi_f ho315 c600
                                                                                    refine lv_iconst (v := iI 0) hx hb dL_law_1359 rfl ?_
                                                                                    exact absurd (congrArg Prod.fst (Option.some.inj (hT315 _ (Option.some.inj ho315).symm))) (show ¬ iI 0 = iI 1 by decide)
                                                                                · have ho315 := oi_f ho315 c352
                                                                                  by_cases c353 : (v314 &&& (iI 63)) = iI 37
                                                                                  · have ho315 := oi_t ho315 c353
                                                                                    refine lv_tableIn (off := 1329) (tgt := 1361) hx hb dL_law_32 (by rw [ep_swIn c353 (by decide)]; decide) (by rw [ep_swIn c353 (by decide)]; decide) (by rw [ep_swIn c353 (by decide)]; rfl) (by decide) ?_
                                                                                    refine lv_aload_n hx hb dL_law_1361 rfl (lv_at hl 1 rfl) ?_
                                                                                    refine lv_aload_n hx hb dL_law_1362 rfl (lv_at hl 0 rfl) ?_
                                                                                    refine lv_iload_n hx hb dL_law_1363 rfl (lv_at hl 3 rfl) ?_
                                                                                    refine lv_iconst (v := iI 1) hx hb dL_law_1364 rfl ?_
                                                                                    refine lv_iadd hx hb dL_law_1365 ?_
                                                                                    obtain ⟨v601, ev601, ho315⟩ := ob_s ho315
                                                                                    refine ep_sX hx hb hX hbl hbA hw ev601 dL_law_1366 ?_
                                                                                    refine lv_aload_n hx hb dL_law_1367 rfl (lv_at hl 0 rfl) ?_
                                                                                    refine lv_iload_n hx hb dL_law_1368 rfl (lv_at hl 3 rfl) ?_
                                                                                    refine lv_iconst (v := iI 2) hx hb dL_law_1369 rfl ?_
                                                                                    refine lv_iadd hx hb dL_law_1370 ?_
                                                                                    obtain ⟨v602, ev602, ho315⟩ := ob_s ho315
                                                                                    refine ep_sX hx hb hX hbl hbA hw ev602 dL_law_1371 ?_
                                                                                    refine lv_aload_n hx hb dL_law_1372 rfl (lv_at hl 0 rfl) ?_
                                                                                    refine lv_iload_n hx hb dL_law_1373 rfl (lv_at hl 3 rfl) ?_
                                                                                    refine lv_iconst (v := iI 3) hx hb dL_law_1374 rfl ?_
                                                                                    refine lv_iadd hx hb dL_law_1375 ?_
                                                                                    obtain ⟨v603, ev603, ho315⟩ := ob_s ho315
                                                                                    refine ep_sX hx hb hX hbl hbA hw ev603 dL_law_1376 ?_
                                                                                    refine lv_aload_n hx hb dL_law_1377 rfl (lv_at hl 0 rfl) ?_
                                                                                    refine lv_iload_n hx hb dL_law_1378 rfl (lv_at hl 3 rfl) ?_
                                                                                    refine lv_iconst (v := iI 4) hx hb dL_law_1379 rfl ?_
                                                                                    refine lv_iadd hx hb dL_law_1380 ?_
                                                                                    obtain ⟨v604, ev604, ho315⟩ := ob_s ho315
                                                                                    refine ep_sX hx hb hX hbl hbA hw ev604 dL_law_1381 ?_
                                                                                    obtain ⟨o605, eo605, ho315⟩ := ob_s ho315
                                                                                    refine ep_calli (va_runV (As := [.int v601, .int v602, .int v603, .int v604]) (rest := []) ⟨hx, hb, hml, hown, hts⟩ (metX0_read l hfl G h h0.1 v601 v602 v603 v604 eo605) (cwV 4 hts (lw_V q1091 q1092 q1093 q85 q1094) rfl rfl rfl hdX0_read ⟨Nat.le_of_ble_eq_true rfl, Nat.le_of_ble_eq_true rfl⟩) (ep_preV hK hZ hw rfl (ckX0_read eo605)) rfl rfl hl.1 rfl (lv_room (Nat.le_of_ble_eq_true rfl)) dL_law_1382 ⟨by dsimp only [room_1]; omega, by dsimp only [room_1]; omega⟩) hw (fun H locs hw => ?_)
                                                                                    refine lv_aload_n hx hb dL_law_1385 rfl (lv_at hl 2 rfl) ?_
                                                                                    refine lv_aload_n hx hb dL_law_1386 rfl (lv_at hl 0 rfl) ?_
                                                                                    refine lv_iload_n hx hb dL_law_1387 rfl (lv_at hl 3 rfl) ?_
                                                                                    refine lv_iconst (v := iI 1) hx hb dL_law_1388 rfl ?_
                                                                                    refine lv_iadd hx hb dL_law_1389 ?_
                                                                                    obtain ⟨v606, ev606, ho315⟩ := ob_s ho315
                                                                                    refine ep_sX hx hb hX hbl hbA hw ev606 dL_law_1390 ?_
                                                                                    refine lv_aload_n hx hb dL_law_1391 rfl (lv_at hl 0 rfl) ?_
                                                                                    refine lv_iload_n hx hb dL_law_1392 rfl (lv_at hl 3 rfl) ?_
                                                                                    refine lv_iconst (v := iI 2) hx hb dL_law_1393 rfl ?_
                                                                                    refine lv_iadd hx hb dL_law_1394 ?_
                                                                                    obtain ⟨v607, ev607, ho315⟩ := ob_s ho315
                                                                                    refine ep_sX hx hb hX hbl hbA hw ev607 dL_law_1395 ?_
                                                                                    refine lv_aload_n hx hb dL_law_1396 rfl (lv_at hl 0 rfl) ?_
                                                                                    refine lv_iload_n hx hb dL_law_1397 rfl (lv_at hl 3 rfl) ?_
                                                                                    refine lv_iconst (v := iI 3) hx hb dL_law_1398 rfl ?_
                                                                                    refine lv_iadd hx hb dL_law_1399 ?_
                                                                                    obtain ⟨v608, ev608, ho315⟩ := ob_s ho315
                                                                                    refine ep_sX hx hb hX hbl hbA hw ev608 dL_law_1400 ?_
                                                                                    refine lv_aload_n hx hb dL_law_1401 rfl (lv_at hl 0 rfl) ?_
                                                                                    refine lv_iload_n hx hb dL_law_1402 rfl (lv_at hl 3 rfl) ?_
                                                                                    refine lv_iconst (v := iI 4) hx hb dL_law_1403 rfl ?_
                                                                                    refine lv_iadd hx hb dL_law_1404 ?_
                                                                                    obtain ⟨v609, ev609, ho315⟩ := ob_s ho315
                                                                                    refine ep_sX hx hb hX hbl hbA hw ev609 dL_law_1405 ?_
                                                                                    obtain ⟨o610, eo610, ho315⟩ := ob_s ho315
                                                                                    refine ep_calli0 (va_runV (As := [.int v606, .int v607, .int v608, .int v609]) (rest := [.int o605.1]) ⟨hx, hb, hml, hown, hts⟩ (metX4_read l G o605.2 o2.1 v606 v607 v608 v609 eo610) (cwV 4 hts (lw_V q1622 q1623 q1624 q89 q1625) rfl rfl rfl hdX4_read ⟨Nat.le_of_ble_eq_true rfl, Nat.le_of_ble_eq_true rfl⟩) (ep_preV hK hZ hw rfl (ckX4_read eo610)) rfl rfl hl.1 rfl (lv_room (Nat.le_of_ble_eq_true rfl)) dL_law_1406 ⟨by dsimp only [room_1]; omega, by dsimp only [room_1]; omega⟩) hw (fun H locs hw => ?_)
                                                                                    refine lv_icmp_eq (tgt := 1450) hx hb dL_law_1409 (by decide) (fun c611 => ?_) (fun c611 => ?_)
                                                                                    · have ho315 := oi_t ho315 c611
                                                                                      refine W.widen (k := 129 + (65 - (fu + 1)) * 51 + 51) (n := 1789 + (65 - (fu + 1)) * 405 + 405) (by omega) (by omega) ?_
                                                                                      exact hJ315 _ (Option.some.inj ho315).symm _ _ _ hw (lv_sub hl [0, 1, 2, 3] rfl)
                                                                                    · have ho315 := oi_f ho315 c611
                                                                                      refine lv_iconst (v := iI 0) hx hb dL_law_1412 rfl ?_
                                                                                      exact absurd (congrArg Prod.fst (Option.some.inj (hT315 _ (Option.some.inj ho315).symm))) (show ¬ iI 0 = iI 1 by decide)
                                                                                  · have ho315 := oi_f ho315 c353
                                                                                    by_cases c354 : (v314 &&& (iI 63)) = iI 38
                                                                                    · have ho315 := oi_t ho315 c354
                                                                                      refine lv_tableIn (off := 1382) (tgt := 1414) hx hb dL_law_32 (by rw [ep_swIn c354 (by decide)]; decide) (by rw [ep_swIn c354 (by decide)]; decide) (by rw [ep_swIn c354 (by decide)]; rfl) (by decide) ?_
                                                                                      refine lv_aload_n hx hb dL_law_1414 rfl (lv_at hl 1 rfl) ?_
                                                                                      obtain ⟨v612, ev612, ho315⟩ := ob_s ho315
                                                                                      refine ep_calli0 (va_runV (As := []) (rest := []) ⟨hx, hb, hml, hown, hts⟩ (metX0_torn l G h h0.1 ev612) (cwV 0 hts (lw_V q1117 q1118 q1119 q85 q1120) rfl rfl rfl hdX0_torn ⟨Nat.le_of_ble_eq_true rfl, Nat.le_of_ble_eq_true rfl⟩) (ep_preV hK hZ hw rfl (ckX0_torn ev612)) rfl rfl hl.1 rfl (lv_room (Nat.le_of_ble_eq_true rfl)) dL_law_1415 ⟨by dsimp only [room_1]; omega, by dsimp only [room_1]; omega⟩) hw (fun H locs hw => ?_)
                                                                                      refine lv_aload_n hx hb dL_law_1418 rfl (lv_at hl 2 rfl) ?_
                                                                                      obtain ⟨v613, ev613, ho315⟩ := ob_s ho315
                                                                                      refine ep_calli0 (va_runV (As := []) (rest := [.int v612]) ⟨hx, hb, hml, hown, hts⟩ (metX4_torn l G h o2.1 ev613) (cwV 0 hts (lw_V q1628 q1629 q1630 q89 q1631) rfl rfl rfl hdX4_torn ⟨Nat.le_of_ble_eq_true rfl, Nat.le_of_ble_eq_true rfl⟩) (ep_preV hK hZ hw rfl (ckX4_torn ev613)) rfl rfl hl.1 rfl (lv_room (Nat.le_of_ble_eq_true rfl)) dL_law_1419 ⟨by dsimp only [room_1]; omega, by dsimp only [room_1]; omega⟩) hw (fun H locs hw => ?_)
                                                                                      refine lv_icmp_eq (tgt := 1450) hx hb dL_law_1422 (by decide) (fun c614 => ?_) (fun c614 => ?_)
                                                                                      · have ho315 := oi_t ho315 c614
                                                                                        refine W.widen (k := 129 + (65 - (fu + 1)) * 51 + 51) (n := 1789 + (65 - (fu + 1)) * 405 + 405) (by omega) (by omega) ?_
                                                                                        exact hJ315 _ (Option.some.inj ho315).symm _ _ _ hw (lv_sub hl [0, 1, 2, 3] rfl)
                                                                                      · have ho315 := oi_f ho315 c614
                                                                                        refine lv_iconst (v := iI 0) hx hb dL_law_1425 rfl ?_
                                                                                        exact absurd (congrArg Prod.fst (Option.some.inj (hT315 _ (Option.some.inj ho315).symm))) (show ¬ iI 0 = iI 1 by decide)
                                                                                    · have ho315 := oi_f ho315 c354
                                                                                      by_cases c355 : (v314 &&& (iI 63)) = iI 39
                                                                                      · have ho315 := oi_t ho315 c355
                                                                                        refine lv_tableIn (off := 1395) (tgt := 1427) hx hb dL_law_32 (by rw [ep_swIn c355 (by decide)]; decide) (by rw [ep_swIn c355 (by decide)]; decide) (by rw [ep_swIn c355 (by decide)]; rfl) (by decide) ?_
                                                                                        refine lv_aload_n hx hb dL_law_1427 rfl (lv_at hl 1 rfl) ?_
                                                                                        refine lv_aload_n hx hb dL_law_1428 rfl (lv_at hl 0 rfl) ?_
                                                                                        refine lv_iload_n hx hb dL_law_1429 rfl (lv_at hl 3 rfl) ?_
                                                                                        refine lv_iconst (v := iI 1) hx hb dL_law_1430 rfl ?_
                                                                                        refine lv_iadd hx hb dL_law_1431 ?_
                                                                                        obtain ⟨v615, ev615, ho315⟩ := ob_s ho315
                                                                                        refine ep_sX hx hb hX hbl hbA hw ev615 dL_law_1432 ?_
                                                                                        obtain ⟨v616, ev616, ho315⟩ := ob_s ho315
                                                                                        refine ep_calli0 (va_runV (As := [.int v615]) (rest := []) ⟨hx, hb, hml, hown, hts⟩ (metX0_count l G h h0.1 v615 ev616) (cwV 1 hts (lw_V q1121 q1122 q1123 q85 q1124) rfl rfl rfl hdX0_count ⟨Nat.le_of_ble_eq_true rfl, Nat.le_of_ble_eq_true rfl⟩) (ep_preV hK hZ hw rfl (ckX0_count ev616)) rfl rfl hl.1 rfl (lv_room (Nat.le_of_ble_eq_true rfl)) dL_law_1433 ⟨by dsimp only [room_1]; omega, by dsimp only [room_1]; omega⟩) hw (fun H locs hw => ?_)
                                                                                        refine lv_aload_n hx hb dL_law_1436 rfl (lv_at hl 2 rfl) ?_
                                                                                        refine lv_aload_n hx hb dL_law_1437 rfl (lv_at hl 0 rfl) ?_
                                                                                        refine lv_iload_n hx hb dL_law_1438 rfl (lv_at hl 3 rfl) ?_
                                                                                        refine lv_iconst (v := iI 1) hx hb dL_law_1439 rfl ?_
                                                                                        refine lv_iadd hx hb dL_law_1440 ?_
                                                                                        obtain ⟨v617, ev617, ho315⟩ := ob_s ho315
                                                                                        refine ep_sX hx hb hX hbl hbA hw ev617 dL_law_1441 ?_
                                                                                        obtain ⟨o618, eo618, ho315⟩ := ob_s ho315
                                                                                        refine ep_calli0 (va_runV (As := [.int v617]) (rest := [.int v616]) ⟨hx, hb, hml, hown, hts⟩ (metX4_count l G h o2.1 v617 eo618) (cwV 1 hts (lw_V q1632 q1633 q1634 q89 q1635) rfl rfl rfl hdX4_count ⟨Nat.le_of_ble_eq_true rfl, Nat.le_of_ble_eq_true rfl⟩) (ep_preV hK hZ hw rfl (ckX4_count eo618)) rfl rfl hl.1 rfl (lv_room (Nat.le_of_ble_eq_true rfl)) dL_law_1442 ⟨by dsimp only [room_1]; omega, by dsimp only [room_1]; omega⟩) hw (fun H locs hw => ?_)
                                                                                        refine lv_icmp_eq (tgt := 1450) hx hb dL_law_1445 (by decide) (fun c619 => ?_) (fun c619 => ?_)
                                                                                        · have ho315 := oi_t ho315 c619
                                                                                          refine W.widen (k := 129 + (65 - (fu + 1)) * 51 + 51) (n := 1789 + (65 - (fu + 1)) * 405 + 405) (by omega) (by omega) ?_
                                                                                          exact hJ315 _ (Option.some.inj ho315).symm _ _ _ hw (lv_sub hl [0, 1, 2, 3] rfl)
                                                                                        · have ho315 := oi_f ho315 c619
                                                                                          refine lv_iconst (v := iI 0) hx hb dL_law_1448 rfl ?_
                                                                                          exact absurd (congrArg Prod.fst (Option.some.inj (hT315 _ (Option.some.inj ho315).symm))) (show ¬ iI 0 = iI 1 by decide)
                                                                                      · have ho315 := oi_f ho315 c355
                                                                                        refine lv_tableOut (tgt := 1450) hx hb dL_law_32 (ep_swOut (n := 40) (x := (v314 &&& (iI 63))) (by decide) (lt_s (lt_s (lt_s (lt_s (lt_s (lt_s (lt_s (lt_s (lt_s (lt_s (lt_s (lt_s (lt_s (lt_s (lt_s (lt_s (lt_s (lt_s (lt_s (lt_s (lt_s (lt_s (lt_s (lt_s (lt_s (lt_s (lt_s (lt_s (lt_s (lt_s (lt_s (lt_s (lt_s (lt_s (lt_s (lt_s (lt_s (lt_s (lt_s (lt_s lt_0 c316) c317) c318) c319) c320) c321) c322) c323) c324) c325) c326) c327) c328) c329) c330) c331) c332) c333) c334) c335) c336) c337) c338) c339) c340) c341) c342) c343) c344) c345) c346) c347) c348) c349) c350) c351) c352) c353) c354) c355)) (by decide) ?_
                                                                                        refine W.widen (k := 129 + (65 - (fu + 1)) * 51 + 51) (n := 1789 + (65 - (fu + 1)) * 405 + 405) (by omega) (by omega) ?_
                                                                                        exact hJ315 _ (Option.some.inj ho315).symm _ _ _ hw (lv_sub hl [0, 1, 2, 3] rfl)
  exact hL5 65 (Nat.le_refl _) _ _ ho5 _ _ _ hw (lv_sub hl [3, 2, 1, 0] rfl)
