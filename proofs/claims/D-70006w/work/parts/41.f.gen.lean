/-! the methods as pure functions (printed by gen.py) -/
set_option maxRecDepth 100000
def nmI {α : Type} (x : Int32) (f : Int32 → Option α) : Option α := f x
theorem nmI_s {α : Type} {x : Int32} {f : Int32 → Option α} {r : α} (e : nmI x f = some r) (v : Int32) (h : v = x) : f v = some r := by subst h; exact e
def fX8_returns (x1 : Int32) (x2 : Int32) : Option (Int32) :=
  (dvI x1 x2).bind fun v1 =>
  some v1
def fX8_spoils  : Option (Int32) :=
  some (iI 0)
def fX8_gain (x1 : Int32) : Option (Int32) :=
  some x1
def fX10_returns (x1 : Int32) (x2 : Int32) : Option (Int32) :=
  (fX8_returns x1 x2).bind fun v1 =>
  some ((iI 2) * v1)
def fX10_gain (x1 : Int32) : Option (Int32) :=
  (fX8_gain x1).bind fun v1 =>
  some ((iI 2) * v1)
def fX9_returns (x1 : Int32) (x2 : Int32) : Option (Int32) :=
  (fX8_returns x1 x2).bind fun v1 =>
  some (v1 + (iI 1))
def fX9_gain (x1 : Int32) : Option (Int32) :=
  (fX8_gain x1).bind fun v1 =>
  some (if v1 < (iI 1) then v1 else (iI 1))
def fX11_returns (x1 : Int32) (x2 : Int32) : Option (Int32) :=
  (fX10_returns x1 x2).bind fun v1 =>
  (dvI v1 (iI 2)).bind fun v2 =>
  some v2
def fX11_spoils  : Option (Int32) :=
  (fX8_spoils).bind fun v1 =>
  if v1 = 0 then
    (some (iI 1))
  else
  some (iI 0)
def fX0_isIn (x0 : Int64) (x2 : Int64) (x4 : Int64) : Option (Int32) :=
  if (lg_cmp x0 x2) < 0 then
    (some (iI 0))
  else
  if 0 < (lg_cmp x0 x4) then
    (some (iI 0))
  else
  some (iI 1)
def fX0_feed (h : Hp) (a0 : Nat) (x1 : Int32) : Option (Int32 × Hp) :=
  if ep_cls h a0 = some 0 then
    ((fX0_isIn x1.toInt64 (lI 0) (127 : Int64)).bind fun v1 =>
    if v1 = 0 then
      (some (iI (-1), h))
    else
    (gI h a0 0 1).bind fun v3 =>
    if v3 = (iI 160) then
      (some (iI (-3), h))
    else
    (gR h a0 0 0).bind fun r5 =>
    (gI h a0 0 1).bind fun v6 =>
    (aS 1 h r5 v6 x1.toInt8.toInt32.toInt8.toInt32).bind fun h7 =>
    (gI h7 a0 0 1).bind fun v8 =>
    (pF h7 a0 0 1 (.int (v8 + (iI 1)))).bind fun h9 =>
    (gI h9 a0 0 1).bind fun v10 =>
    some (v10, h9))
  else none
def fX0_end (h : Hp) (a0 : Nat) (x1 : Int32) : Option (Int32 × Hp) :=
  if ep_cls h a0 = some 0 then
    ((gI h a0 0 1).bind fun v1 =>
    (fX0_isIn x1.toInt64 (lI 0) v1.toInt64).bind fun v2 =>
    if v2 = 0 then
      (some (iI (-1), h))
    else
    (gI h a0 0 1).bind fun v4 =>
    (pF h a0 0 1 (.int x1)).bind fun h5 =>
    some (v4, h5))
  else none
def fX1_init (h : Hp) (a0 : Nat) : Option (Hp) :=
  if ep_cls h a0 = some 1 then
    ((nwI 0 4 (iI 4) h).bind fun h1 =>
    (pF h1 a0 1 0 (.ref h.1)).bind fun h2 =>
    (nwI 0 4 (iI 4) h2).bind fun h3 =>
    (pF h3 a0 1 1 (.ref h2.1)).bind fun h4 =>
    (nwI 0 5 (iI 5) h4).bind fun h5 =>
    (pF h5 a0 1 2 (.ref h4.1)).bind fun h6 =>
    (nwM 4 1 5 5 (iI 5) (iI 5) h6).bind fun h7 =>
    (pF h7 a0 1 3 (.ref h6.1)).bind fun h8 =>
    (nwI 0 5 (iI 5) h8).bind fun h9 =>
    (pF h9 a0 1 4 (.ref h8.1)).bind fun h10 =>
    (nwI 0 5 (iI 5) h10).bind fun h11 =>
    (pF h11 a0 1 5 (.ref h10.1)).bind fun h12 =>
    (nwI 0 5 (iI 5) h12).bind fun h13 =>
    (pF h13 a0 1 6 (.ref h12.1)).bind fun h14 =>
    some h14)
  else none
def fX5_at (h : Hp) (a0 : Nat) (x1 : Int32) : Option (Int32) :=
  if ep_cls h a0 = some 5 then
    ((gR h a0 5 0).bind fun r1 =>
    (aLn 1 h r1).bind fun v2 =>
    if v2 ≤ x1 then
      (some (iI (-4)))
    else
    (gR h a0 5 0).bind fun r4 =>
    (aI 1 h r4 x1).bind fun v5 =>
    some v5)
  else none
def fJ0_init_2 (h : Hp) (a0 : Nat) (x3 : Int32) (x4 : Int32) : Option (Hp) :=
  if ep_cls h a0 = some 6 then
    (if x3 = 0 ∧ x4 = 0 then thN h a0 else none)
  else none
def fJ1_init (h : Hp) (a0 : Nat) (x3 : Int32) (x4 : Int32) : Option (Hp) :=
  if ep_cls h a0 = some 6 then
    ((fJ0_init_2 h a0 x3 x4).bind fun o1 =>
    some o1)
  else none
def fJ2_init (h : Hp) (a0 : Nat) (x3 : Int32) (x4 : Int32) : Option (Hp) :=
  if ep_cls h a0 = some 6 then
    ((fJ1_init h a0 x3 x4).bind fun o1 =>
    some o1)
  else none
def fX6_init (h : Hp) (a0 : Nat) (x1 : Int32) (x2 : Int32) : Option (Hp) :=
  if ep_cls h a0 = some 6 then
    ((fJ2_init h a0 (iI 0) (iI 0)).bind fun o1 =>
    (pF o1 a0 6 6 (.int x1)).bind fun h2 =>
    (pF h2 a0 6 7 (.int x2)).bind fun h3 =>
    some h3)
  else none
def fX5_must (h : Hp) (a0 : Nat) (x1 : Int32) (x2 : Int32) : Option (Thr ⊕ (Hp)) :=
  if ep_cls h a0 = some 5 then
    (if x1 = 0 then
      ((nwO 6 [.null, .null, .null, .null, .null, .int 0, .int 0, .int 0] h).bind fun h2 =>
      (gI h2 a0 5 7).bind fun v3 =>
      (fX6_init h2 h.1 x2 v3).bind fun o4 =>
      (thF o4 h.1).bind fun t5 =>
      some (.inl t5))
    else
    some (.inr h))
  else none
def fX5_next_L8 (a0 : Nat) : Nat → Hp → Option (Hp)
  | 0, _ => none
  | fu + 1, h =>
    (gI h a0 5 7).bind fun v4 =>
    (fX5_at h a0 v4).bind fun v5 =>
    if v5 = (iI 32) then
      ((gI h a0 5 7).bind fun v7 =>
      (pF h a0 5 7 (.int (v7 + (iI 1)))).bind fun h8 =>
      fX5_next_L8 a0 fu h8)
    else
    some h
def fX5_next_L94 (a0 : Nat) : Nat → Hp → Option (Hp)
  | 0, _ => none
  | fu + 1, h =>
    (gI h a0 5 8).bind fun v49 =>
    (fX5_at h a0 v49).bind fun v50 =>
    (fX0_isIn v50.toInt64 (97 : Int64) (122 : Int64)).bind fun v51 =>
    if v51 = 0 then
      (some h)
    else
    (gI h a0 5 8).bind fun v53 =>
    (pF h a0 5 8 (.int (v53 + (iI 1)))).bind fun h54 =>
    fX5_next_L94 a0 fu h54
def fX5_next_L163 (a0 : Nat) : Nat → Hp → Option (Hp)
  | 0, _ => none
  | fu + 1, h =>
    (gI h a0 5 8).bind fun v27 =>
    (fX5_at h a0 v27).bind fun v28 =>
    (fX0_isIn v28.toInt64 (48 : Int64) (57 : Int64)).bind fun v29 =>
    if v29 = 0 then
      (some h)
    else
    (gI h a0 5 8).bind fun v31 =>
    (gI h a0 5 7).bind fun v32 =>
    (
      if (iI 2) ≤ (v31 - v32) then
        ((gI h a0 5 10).bind fun v35 =>
        some v35)
      else
      (gI h a0 5 10).bind fun v36 =>
      (gI h a0 5 8).bind fun v37 =>
      (fX5_at h a0 v37).bind fun v38 =>
      some ((((iI 10) * v36) + v38) - (iI 48))).bind fun o33 =>
    (pF h a0 5 10 (.int o33)).bind fun h39 =>
    (gI h39 a0 5 8).bind fun v40 =>
    (pF h39 a0 5 8 (.int (v40 + (iI 1)))).bind fun h41 =>
    fX5_next_L163 a0 fu h41
def fX5_next (h : Hp) (a0 : Nat) : Option (Thr ⊕ (Hp)) :=
  if ep_cls h a0 = some 5 then
    ((gI h a0 5 8).bind fun v1 =>
    (pF h a0 5 7 (.int v1)).bind fun h2 =>
    (fX5_next_L8 a0 FUEL h2).bind fun o3 =>
    (gI o3 a0 5 7).bind fun v9 =>
    (fX5_at o3 a0 v9).bind fun v10 =>
    (gI o3 a0 5 7).bind fun v11 =>
    (pF o3 a0 5 8 (.int (v11 + (iI 1)))).bind fun h12 =>
    (pF h12 a0 5 10 (.int v10)).bind fun h13 =>
    if v10 = (iI (-4)) then
      ((gI h13 a0 5 7).bind fun v56 =>
      (pF h13 a0 5 8 (.int v56)).bind fun h57 =>
      (pF h57 a0 5 9 (.int (iI 0))).bind fun h58 =>
      some (.inr h58))
    else
    (fX0_isIn v10.toInt64 (97 : Int64) (122 : Int64)).bind fun v15 =>
    if v15 = 0 then
      ((fX0_isIn v10.toInt64 (48 : Int64) (57 : Int64)).bind fun v17 =>
      if v17 = 0 then
        (orL (fX5_must h13 a0 (if v10 = (iI 59) then iI 1 else iI 0) (iI 1)) (fun x => some (.inl x)) fun o21 =>
        (pF o21 a0 5 9 (.int (iI 3))).bind fun h22 =>
        some (.inr h22))
      else
      (gI h13 a0 5 7).bind fun v23 =>
      (pF h13 a0 5 8 (.int v23)).bind fun h24 =>
      (pF h24 a0 5 10 (.int (iI 0))).bind fun h25 =>
      (fX5_next_L163 a0 FUEL h25).bind fun o26 =>
      (gI o26 a0 5 8).bind fun v42 =>
      (gI o26 a0 5 7).bind fun v43 =>
      orL (fX5_must o26 a0 (if (iI 2) < (v42 - v43) then iI 0 else iI 1) (iI 1)) (fun x => some (.inl x)) fun o46 =>
      (pF o46 a0 5 9 (.int (iI 2))).bind fun h47 =>
      some (.inr h47))
    else
    (fX5_next_L94 a0 FUEL h13).bind fun o48 =>
    (pF o48 a0 5 9 (.int (iI 1))).bind fun h55 =>
    some (.inr h55))
  else none
def fX5_init (h : Hp) (a0 : Nat) (a1 : Nat) : Option (Thr ⊕ (Hp)) :=
  if ep_cls h a0 = some 5 then
    ((nwO 1 [.null, .null, .null, .null, .null, .null, .null, .int 0, .int 0, .int 0, .int 0] h).bind fun h1 =>
    (fX1_init h1 h.1).bind fun o2 =>
    (pF o2 a0 5 1 (.ref h.1)).bind fun h3 =>
    (nwQ 6 4 (iI 4) h3).bind fun h4 =>
    (pF h4 a0 5 2 (.ref h3.1)).bind fun h5 =>
    (pF h5 a0 5 5 (.int (iI (-4)))).bind fun h6 =>
    (pF h6 a0 5 0 (.ref a1)).bind fun h7 =>
    orL (fX5_next h7 a0) (fun x => some (.inl x)) fun o8 =>
    some (.inr o8))
  else none
def fJ3_coder (k0 : Nat) : Option (Int32) :=
  if k0 < 7 then
    (if (1 : Int32) = 0 then
      (none)
    else
    (sCk k0).bind fun u2 =>
    (ckB (0 : Int32)).bind fun z =>
    some z)
  else none
def fJ3_length (k0 : Nat) : Option (Int32) :=
  if k0 < 7 then
    ((sCk k0).bind fun u1 =>
    (sLen k0).bind fun v2 =>
    (fJ3_coder k0).bind fun v3 =>
    some (v2 >>> (v3 &&& 31)))
  else none
def fJ3_isLatin1 (k0 : Nat) : Option (Int32) :=
  if k0 < 7 then
    (if (1 : Int32) = 0 then
      (some (iI 0))
    else
    (sCk k0).bind fun u2 =>
    if (0 : Int32) = 0 then
      (some (iI 1))
    else
    some (iI 0))
  else none
def fJ5_checkIndex (x0 : Int32) (x1 : Int32) : Option (Int32) :=
  orL (
    if x0 < 0 then
      (some (.inr ()))
    else
    if x0 < x1 then
      (some (.inl x0))
    else
    some (.inr ())) (fun r => some r) fun o1 =>
  none
def fJ3_checkIndex (x0 : Int32) (x1 : Int32) : Option (Unit) :=
  (fJ5_checkIndex x0 x1).bind fun _ =>
  some ()
def fJ4_charAt (k0 : Nat) (x1 : Int32) : Option (Int32) :=
  (sLen k0).bind fun v1 =>
  (fJ3_checkIndex x1 v1).bind fun v2 =>
  (sByt k0 x1).bind fun v3 =>
  (ckC (((v3 &&& (iI 255)).toUInt32 % 65536).toInt32)).bind fun z =>
  some z
def fJ3_charAt (k0 : Nat) (x1 : Int32) : Option (Int32) :=
  if k0 < 7 then
    ((fJ3_isLatin1 k0).bind fun v1 =>
    if v1 = 0 then
      (none)
    else
    (sCk k0).bind fun u3 =>
    (fJ4_charAt k0 x1).bind fun v4 =>
    (ckC v4).bind fun z =>
    some z)
  else none
def fX5_isWord_L32 (h : Hp) (a0 : Nat) (x1 : Nat) : Nat → Int32 → Int32 → Option (Int32)
  | 0, _, _ => none
  | fu + 1, x2, x3 =>
    (fJ3_length x1).bind fun v9 =>
    if v9 ≤ x3 then
      (some x2)
    else
    if x2 = 0 then
      (some x2)
    else
    (fJ3_charAt x1 x3).bind fun v12 =>
    (gI h a0 5 7).bind fun v13 =>
    (fX5_at h a0 (v13 + x3)).bind fun v14 =>
    fX5_isWord_L32 h a0 x1 fu (if v12 = v14 then iI 1 else iI 0) (x3 + iI 1)
def fX5_isWord (h : Hp) (a0 : Nat) (k1 : Nat) : Option (Int32) :=
  if ep_cls h a0 = some 5 then
    ((gI h a0 5 9).bind fun v1 =>
    orL (
      if v1 = (iI 1) then
        ((fJ3_length k1).bind fun v4 =>
        (gI h a0 5 8).bind fun v5 =>
        (gI h a0 5 7).bind fun v6 =>
        if v4 = (v5 - v6) then
          ((fX5_isWord_L32 h a0 k1 FUEL (iI 1) (iI 0)).bind fun o8 =>
          (ckZ o8).bind fun z =>
          some (.inl z))
        else
        some (.inr ()))
      else
      some (.inr ())) (fun r => some r) fun o2 =>
    (fX5_isWord_L32 h a0 k1 FUEL (iI 0) (iI 0)).bind fun o17 =>
    (ckZ o17).bind fun z =>
    some z)
  else none
def fX5_wordInto (h : Hp) (a0 : Nat) (a1 : Nat) : Option (Thr ⊕ (Int32 × Hp)) :=
  if ep_cls h a0 = some 5 then
    ((gI h a0 5 9).bind fun v1 =>
    orL (fX5_must h a0 (if v1 = (iI 1) then iI 1 else iI 0) (iI 2)) (fun x => some (.inl x)) fun o4 =>
    (gI o4 a0 5 8).bind fun v5 =>
    (gI o4 a0 5 7).bind fun v6 =>
    orL (fX5_must o4 a0 (if (iI 5) < (v5 - v6) then iI 0 else iI 1) (iI 3)) (fun x => some (.inl x)) fun o9 =>
    (gI o9 a0 5 8).bind fun v10 =>
    (gI o9 a0 5 7).bind fun v11 =>
    (gR o9 a0 5 0).bind fun r12 =>
    (gI o9 a0 5 7).bind fun v13 =>
    (cpA 1 o9 r12 v13 a1 (iI 0) (v10 - v11)).bind fun h14 =>
    orL (fX5_next h14 a0) (fun x => some (.inl x)) fun o15 =>
    some (.inr ((v10 - v11), o15)))
  else none
def fX0_has (x0 : Int32) (x1 : Int32) : Option (Int32) :=
  if ((x0 >>> (x1 &&& 31)) &&& (iI 1)) = (iI 1) then
    (some (iI 1))
  else
  some (iI 0)
def fX5_other (h : Hp) (a0 : Nat) (x1 : Int32) (x2 : Int32) (x3 : Int32) : Option (Thr ⊕ (Int32 × Hp)) :=
  if ep_cls h a0 = some 5 then
    ((gI h a0 5 9).bind fun v1 =>
    orL (fX5_must h a0 (if v1 = (iI 2) then iI 1 else iI 0) (iI 2)) (fun x => some (.inl x)) fun o4 =>
    (gI o4 a0 5 10).bind fun v5 =>
    (fX0_isIn v5.toInt64 x1.toInt64 x2.toInt64).bind fun v6 =>
    orL (fX5_must o4 a0 v6 (iI 3)) (fun x => some (.inl x)) fun o7 =>
    (gI o7 a0 5 10).bind fun v8 =>
    (fX0_has x3 v8).bind fun v9 =>
    orL (fX5_must o7 a0 (if v9 = 0 then iI 1 else iI 0) (iI 4)) (fun x => some (.inl x)) fun o12 =>
    (gI o12 a0 5 10).bind fun v13 =>
    orL (fX5_next o12 a0) (fun x => some (.inl x)) fun o14 =>
    some (.inr (v13, o14)))
  else none
def fX5_number (h : Hp) (a0 : Nat) (x1 : Int32) (x2 : Int32) : Option (Thr ⊕ (Int32 × Hp)) :=
  if ep_cls h a0 = some 5 then
    (orL (fX5_other h a0 x1 x2 (iI 0)) (fun x => some (.inl x)) fun o1 =>
    some (.inr (o1.1, o1.2)))
  else none
def fX5_echoOf (h : Hp) (a0 : Nat) (x1 : Int32) : Option (Thr ⊕ (Hp)) :=
  if ep_cls h a0 = some 5 then
    ((gR h a0 5 1).bind fun r1 =>
    (gI h r1 1 7).bind fun v2 =>
    orL (fX5_must h a0 (if (iI 5) ≤ v2 then iI 0 else iI 1) (iI 5)) (fun x => some (.inl x)) fun o5 =>
    orL (fX5_next o5 a0) (fun x => some (.inl x)) fun o6 =>
    (gR o6 a0 5 1).bind fun r7 =>
    (gI o6 r7 1 7).bind fun v8 =>
    (gR o6 a0 5 1).bind fun r9 =>
    (gR o6 r9 1 2).bind fun r10 =>
    (aS 0 o6 r10 v8 x1).bind fun h11 =>
    (gR h11 a0 5 1).bind fun r12 =>
    (gR h11 r12 1 4).bind fun r13 =>
    (gR h11 a0 5 1).bind fun r14 =>
    (gR h11 r14 1 3).bind fun r15 =>
    (aQ 4 h11 r15 v8).bind fun v16 =>
    orL (fX5_wordInto h11 a0 v16) (fun x => some (.inl x)) fun o17 =>
    (aS 0 o17.2 r13 v8 o17.1).bind fun h18 =>
    (gR h18 a0 5 1).bind fun r19 =>
    (gR h18 r19 1 5).bind fun r20 =>
    orL (fX5_number h18 a0 (iI 0) (iI 99)) (fun x => some (.inl x)) fun o21 =>
    (aS 0 o21.2 r20 v8 o21.1).bind fun h22 =>
    (gR h22 a0 5 1).bind fun r23 =>
    (gR h22 r23 1 6).bind fun r24 =>
    orL (fX5_number h22 a0 (iI 0) (iI 3)) (fun x => some (.inl x)) fun o25 =>
    (aS 0 o25.2 r24 v8 o25.1).bind fun h26 =>
    (gI h26 a0 5 5).bind fun v27 =>
    (gR h26 a0 5 1).bind fun r28 =>
    (gR h26 r28 1 6).bind fun r29 =>
    (aI 0 h26 r29 v8).bind fun v30 =>
    (pF h26 a0 5 5 (.int (if v27 < v30 then v30 else v27))).bind fun h31 =>
    (gR h31 a0 5 1).bind fun r32 =>
    (gI h31 r32 1 7).bind fun v33 =>
    (pF h31 r32 1 7 (.int (v33 + (iI 1)))).bind fun h34 =>
    some (.inr h34))
  else none
def fJ4_canEncode (x0 : Int32) : Option (Int32) :=
  if x0 < 0 then
    (some (iI 0))
  else
  if (iI 255) < x0 then
    (some (iI 0))
  else
  some (iI 1)
def fJ4_indexOfChar_L7 (x0 : Nat) (x3 : Int32) (x4 : Int32) : Nat → Int32 → Option ((Int32) ⊕ (Unit))
  | 0, _ => none
  | fu + 1, x5 =>
    if x3 ≤ x5 then
      (some (.inr ()))
    else
    (sByt x0 x5).bind fun v3 =>
    if v3 = x4 then
      (some (.inl x5))
    else
    fJ4_indexOfChar_L7 x0 x3 x4 fu (x5 + iI 1)
def fJ4_indexOfChar (k0 : Nat) (x1 : Int32) (x2 : Int32) (x3 : Int32) : Option (Int32) :=
  orL (fJ4_indexOfChar_L7 k0 x3 x1.toInt8.toInt32 FUEL x2) (fun r => some r) fun o1 =>
  some (iI (-1))
def fJ4_indexOf (k0 : Nat) (x1 : Int32) (x2 : Int32) (x3 : Int32) : Option (Int32) :=
  (fJ4_canEncode x1).bind fun v1 =>
  if v1 = 0 then
    (some (iI (-1)))
  else
  (sLen k0).bind fun v3 =>
  if (if x2 < (iI 0) then (iI 0) else x2) < (if v3 < x3 then v3 else x3) then
    ((fJ4_indexOfChar k0 x1 (if x2 < (iI 0) then (iI 0) else x2) (if v3 < x3 then v3 else x3)).bind fun v5 =>
    some v5)
  else
  some (iI (-1))
def fJ3_indexOf_2 (k0 : Nat) (x1 : Int32) (x2 : Int32) : Option (Int32) :=
  if k0 < 7 then
    ((fJ3_isLatin1 k0).bind fun v1 =>
    if v1 = 0 then
      (none)
    else
    (sCk k0).bind fun u3 =>
    (fJ3_length k0).bind fun v4 =>
    (fJ4_indexOf k0 x1 x2 v4).bind fun v5 =>
    some v5)
  else none
def fJ3_indexOf (k0 : Nat) (x1 : Int32) : Option (Int32) :=
  if k0 < 7 then
    ((fJ3_indexOf_2 k0 x1 (iI 0)).bind fun v1 =>
    some v1)
  else none
def fX5_vowel (h : Hp) (a0 : Nat) : Option (Thr ⊕ (Int32 × Hp)) :=
  if ep_cls h a0 = some 5 then
    ((gI h a0 5 9).bind fun v1 =>
    orL (fX5_must h a0 (if v1 = (iI 1) then iI 1 else iI 0) (iI 2)) (fun x => some (.inl x)) fun o4 =>
    (gI o4 a0 5 8).bind fun v5 =>
    (gI o4 a0 5 7).bind fun v6 =>
    orL (
      if (v5 - v6) = (iI 1) then
        ((gI o4 a0 5 7).bind fun v9 =>
        (fX5_at o4 a0 v9).bind fun v10 =>
        (fJ3_indexOf 0 v10).bind fun v11 =>
        if v11 < 0 then
          (some (.inr ()))
        else
        orL (fX5_must o4 a0 (iI 1) (iI 3)) (fun x => some (.inl (.inl x))) fun o13 =>
        (gI o13 a0 5 7).bind fun v14 =>
        (fX5_at o13 a0 v14).bind fun v15 =>
        (fJ3_indexOf 0 v15).bind fun v16 =>
        orL (fX5_next o13 a0) (fun x => some (.inl (.inl x))) fun o17 =>
        some (.inl (.inr (v16, o17))))
      else
      some (.inr ())) (fun r => some r) fun o7 =>
    orL (fX5_must o4 a0 (iI 0) (iI 3)) (fun x => some (.inl x)) fun o18 =>
    (gI o18 a0 5 7).bind fun v19 =>
    (fX5_at o18 a0 v19).bind fun v20 =>
    (fJ3_indexOf 0 v20).bind fun v21 =>
    orL (fX5_next o18 a0) (fun x => some (.inl x)) fun o22 =>
    some (.inr (v21, o22)))
  else none
def fX5_penOf (h : Hp) (a0 : Nat) : Option (Thr ⊕ (Hp)) :=
  if ep_cls h a0 = some 5 then
    ((gI h a0 5 3).bind fun v1 =>
    orL (fX5_must h a0 (if (iI 4) ≤ v1 then iI 0 else iI 1) (iI 5)) (fun x => some (.inl x)) fun o4 =>
    orL (fX5_next o4 a0) (fun x => some (.inl x)) fun o5 =>
    (gR o5 a0 5 1).bind fun r6 =>
    (gR o5 r6 1 1).bind fun r7 =>
    (gI o5 a0 5 3).bind fun v8 =>
    orL (fX5_vowel o5 a0) (fun x => some (.inl x)) fun o9 =>
    (aS 0 o9.2 r7 v8 o9.1).bind fun h10 =>
    (gR h10 a0 5 1).bind fun r11 =>
    (gR h10 r11 1 0).bind fun r12 =>
    (gI h10 a0 5 3).bind fun v13 =>
    orL (fX5_number h10 a0 (iI 1) (iI 9)) (fun x => some (.inl x)) fun o14 =>
    (aS 0 o14.2 r12 v13 o14.1).bind fun h15 =>
    (gI h15 a0 5 3).bind fun v16 =>
    (pF h15 a0 5 3 (.int (v16 + (iI 1)))).bind fun h17 =>
    some (.inr h17))
  else none
def fX7_init (h : Hp) (a0 : Nat) : Option (Hp) :=
  if ep_cls h a0 = some 7 then
    ((nwI 1 5 (iI 5) h).bind fun h1 =>
    (pF h1 a0 7 0 (.ref h.1)).bind fun h2 =>
    some h2)
  else none
def fX5_orderOf (h : Hp) (a0 : Nat) : Option (Thr ⊕ (Hp)) :=
  if ep_cls h a0 = some 5 then
    ((gI h a0 5 4).bind fun v1 =>
    orL (fX5_must h a0 (if (iI 4) ≤ v1 then iI 0 else iI 1) (iI 5)) (fun x => some (.inl x)) fun o4 =>
    orL (fX5_next o4 a0) (fun x => some (.inl x)) fun o5 =>
    (nwO 7 [.null, .int 0, .int 0, .int 0] o5).bind fun h6 =>
    (fX7_init h6 o5.1).bind fun o7 =>
    (gR o7 o5.1 7 0).bind fun r8 =>
    orL (fX5_wordInto o7 a0 r8) (fun x => some (.inl x)) fun o9 =>
    (pF o9.2 o5.1 7 1 (.int o9.1)).bind fun h10 =>
    orL (fX5_number h10 a0 (iI 1) (iI 9)) (fun x => some (.inl x)) fun o11 =>
    (pF o11.2 o5.1 7 2 (.int o11.1)).bind fun h12 =>
    orL (fX5_number h12 a0 (iI 0) (iI 9)) (fun x => some (.inl x)) fun o13 =>
    (pF o13.2 o5.1 7 3 (.int o13.1)).bind fun h14 =>
    (gR h14 a0 5 2).bind fun r15 =>
    (gI h14 a0 5 4).bind fun v16 =>
    (aP 6 7 h14 r15 v16 o5.1).bind fun h17 =>
    (gI h17 a0 5 4).bind fun v18 =>
    (pF h17 a0 5 4 (.int (v18 + (iI 1)))).bind fun h19 =>
    some (.inr h19))
  else none
def fX5_line_L20 (h : Hp) (a0 : Nat) : Nat → Int32 → Option (Int32)
  | 0, _ => none
  | fu + 1, x1 =>
    if (iI 6) ≤ x1 then
      (some x1)
    else
    (nck x1).bind fun k7 =>
    (fX5_isWord h a0 k7).bind fun v8 =>
    if v8 = 0 then
      (fX5_line_L20 h a0 fu (x1 + iI 1))
    else
    some x1
def fX5_line (h : Hp) (a0 : Nat) : Option (Thr ⊕ (Hp)) :=
  if ep_cls h a0 = some 5 then
    ((gI h a0 5 9).bind fun v1 =>
    orL (fX5_must h a0 (if v1 = (iI 1) then iI 1 else iI 0) (iI 2)) (fun x => some (.inl x)) fun o4 =>
    (fX5_line_L20 o4 a0 FUEL (iI 0)).bind fun o5 =>
    orL (fX5_must o4 a0 (if (iI 6) ≤ o5 then iI 0 else iI 1) (iI 2)) (fun x => some (.inl x)) fun o12 =>
    orL (
      if (iI 3) < o5 then
        (if o5 = (iI 4) then
          (orL (fX5_penOf o12 a0) (fun x => some (.inl (.inl x))) fun o17 =>
          some (.inr o17))
        else
        orL (fX5_orderOf o12 a0) (fun x => some (.inl (.inl x))) fun o16 =>
        some (.inr o16))
      else
      orL (fX5_echoOf o12 a0 o5) (fun x => some (.inl (.inl x))) fun o18 =>
      some (.inr o18)) (fun r => some r) fun o13 =>
    (gI o13 a0 5 9).bind fun v19 =>
    orL (fX5_must o13 a0 (if v19 = (iI 3) then iI 1 else iI 0) (iI 2)) (fun x => some (.inl x)) fun o22 =>
    (gI o22 a0 5 6).bind fun v23 =>
    (pF o22 a0 5 6 (.int (v23 + (iI 1)))).bind fun h24 =>
    orL (fX5_next h24 a0) (fun x => some (.inl x)) fun o25 =>
    some (.inr o25))
  else none
def fX1_in_L4 (h : Hp) (a0 : Nat) (x1 : Int32) : Nat → Int32 → Int32 → Option (Int32)
  | 0, _, _ => none
  | fu + 1, x2, x3 =>
    (gI h a0 1 7).bind fun v2 =>
    if v2 ≤ x3 then
      (some x2)
    else
    (gR h a0 1 6).bind fun r4 =>
    (aI 0 h r4 x3).bind fun v5 =>
    fX1_in_L4 h a0 x1 fu (x2 ||| (if v5 = x1 then ((iI 1) <<< (x3 &&& 31)) else iI 0)) (x3 + iI 1)
def fX1_in (h : Hp) (a0 : Nat) (x1 : Int32) : Option (Int32) :=
  if ep_cls h a0 = some 1 then
    ((fX1_in_L4 h a0 x1 FUEL (iI 0) (iI 0)).bind fun o1 =>
    some o1)
  else none
def fJ9_bitCount (x0 : Int32) : Option (Int32) :=
  nmI (x0 - (((x0.toUInt32 >>> ((iI 1).toUInt32 &&& Int32.toUInt32 31)).toInt32) &&& (1431655765 : Int32))) fun x_1 =>
  nmI ((x_1 &&& (858993459 : Int32)) + (((x_1.toUInt32 >>> ((iI 2).toUInt32 &&& Int32.toUInt32 31)).toInt32) &&& (858993459 : Int32))) fun x_2 =>
  nmI ((x_2 + ((x_2.toUInt32 >>> ((iI 4).toUInt32 &&& Int32.toUInt32 31)).toInt32)) &&& (252645135 : Int32)) fun x_3 =>
  nmI (x_3 + ((x_3.toUInt32 >>> ((iI 8).toUInt32 &&& Int32.toUInt32 31)).toInt32)) fun x_4 =>
  nmI (x_4 + ((x_4.toUInt32 >>> ((iI 16).toUInt32 &&& Int32.toUInt32 31)).toInt32)) fun x_5 =>
  some (x_5 &&& (iI 63))
def fX5_all_L0 (a0 : Nat) : Nat → Hp → Option ((Thr ⊕ (Hp)) ⊕ (Hp))
  | 0, _ => none
  | fu + 1, h =>
    (gI h a0 5 9).bind fun v5 =>
    if v5 = 0 then
      (some (.inr h))
    else
    orL (fX5_line h a0) (fun x => some (.inl (.inl x))) fun o7 =>
    fX5_all_L0 a0 fu o7
def fX5_all_L38 (a0 : Nat) : Nat → Hp → Int32 → Option ((Thr ⊕ (Hp)) ⊕ (Hp))
  | 0, _, _ => none
  | fu + 1, h, x1 =>
    if (iI 4) ≤ x1 then
      (some (.inr h))
    else
    (gR h a0 5 1).bind fun r15 =>
    (fX1_in h r15 x1).bind fun v16 =>
    (fJ9_bitCount v16).bind fun v17 =>
    orL (fX5_must h a0 (if (iI 3) < v17 then iI 0 else iI 1) (iI 7)) (fun x => some (.inl (.inl x))) fun o20 =>
    fX5_all_L38 a0 fu o20 (x1 + iI 1)
def fX5_all (h : Hp) (a0 : Nat) : Option (Thr ⊕ (Hp)) :=
  if ep_cls h a0 = some 5 then
    (orL (fX5_all_L0 a0 16 h) (fun r => some r) fun o1 =>
    (gI o1 a0 5 5).bind fun v8 =>
    (gI o1 a0 5 3).bind fun v9 =>
    orL (fX5_must o1 a0 (if v9 ≤ v8 then iI 0 else iI 1) (iI 6)) (fun x => some (.inl x)) fun o12 =>
    orL (fX5_all_L38 a0 FUEL o12 (iI 0)) (fun r => some r) fun o13 =>
    some (.inr o13))
  else none
def fX1_takes_L44 (a0 : Nat) (a1 : Nat) : Nat → Hp → Int32 → Option (Hp)
  | 0, _, _ => none
  | fu + 1, h, x2 =>
    if (iI 5) ≤ x2 then
      (some h)
    else
    (gR h a1 1 3).bind fun r12 =>
    (aQ 4 h r12 x2).bind fun v13 =>
    (gR h a0 1 3).bind fun r14 =>
    (aQ 4 h r14 x2).bind fun v15 =>
    (cpA 1 h v13 (iI 0) v15 (iI 0) (iI 5)).bind fun h16 =>
    fX1_takes_L44 a0 a1 fu h16 (x2 + iI 1)
def fX1_takes (h : Hp) (a0 : Nat) (a1 : Nat) : Option (Hp) :=
  if ep_cls h a0 = some 1 then
    ((gR h a1 1 0).bind fun r1 =>
    (gR h a0 1 0).bind fun r2 =>
    (cpA 0 h r1 (iI 0) r2 (iI 0) (iI 4)).bind fun h3 =>
    (gR h3 a1 1 1).bind fun r4 =>
    (gR h3 a0 1 1).bind fun r5 =>
    (cpA 0 h3 r4 (iI 0) r5 (iI 0) (iI 4)).bind fun h6 =>
    (gR h6 a1 1 2).bind fun r7 =>
    (gR h6 a0 1 2).bind fun r8 =>
    (cpA 0 h6 r7 (iI 0) r8 (iI 0) (iI 5)).bind fun h9 =>
    (fX1_takes_L44 a0 a1 FUEL h9 (iI 0)).bind fun o10 =>
    (gR o10 a1 1 4).bind fun r17 =>
    (gR o10 a0 1 4).bind fun r18 =>
    (cpA 0 o10 r17 (iI 0) r18 (iI 0) (iI 5)).bind fun h19 =>
    (gR h19 a1 1 5).bind fun r20 =>
    (gR h19 a0 1 5).bind fun r21 =>
    (cpA 0 h19 r20 (iI 0) r21 (iI 0) (iI 5)).bind fun h22 =>
    (gR h22 a1 1 6).bind fun r23 =>
    (gR h22 a0 1 6).bind fun r24 =>
    (cpA 0 h22 r23 (iI 0) r24 (iI 0) (iI 5)).bind fun h25 =>
    (gI h25 a1 1 7).bind fun v26 =>
    (pF h25 a0 1 7 (.int v26)).bind fun h27 =>
    (gI h27 a1 1 8).bind fun v28 =>
    (pF h27 a0 1 8 (.int v28)).bind fun h29 =>
    (gI h29 a1 1 9).bind fun v30 =>
    (pF h29 a0 1 9 (.int v30)).bind fun h31 =>
    (gI h31 a1 1 10).bind fun v32 =>
    (pF h31 a0 1 10 (.int v32)).bind fun h33 =>
    some h33)
  else none
def fX0_text (h : Hp) (a0 : Nat) : Option (Int32 × Hp) :=
  if ep_cls h a0 = some 0 then
    ((gI h a0 0 1).bind fun v1 =>
    (nwI 1 160 v1 h).bind fun h2 =>
    (gR h2 a0 0 0).bind fun r3 =>
    (gI h2 a0 0 1).bind fun v4 =>
    (cpA 1 h2 r3 (iI 0) h.1 (iI 0) v4).bind fun h5 =>
    (pF h5 a0 0 1 (.int (iI 0))).bind fun h6 =>
    (nwO 5 [.null, .null, .null, .int 0, .int 0, .int 0, .int 0, .int 0, .int 0, .int 0, .int 0] h6).bind fun h7 =>
    orL (fX5_init h7 h6.1 h.1) (fun xo8 =>
      if xo8.1 = 0 then
        ((gI xo8.2.2 xo8.2.1 6 6).bind fun v9 =>
        (pF xo8.2.2 a0 0 2 (.int v9)).bind fun h10 =>
        (gI h10 xo8.2.1 6 7).bind fun v11 =>
        some (((iI (-10)) - v11), h10))
      else
      none) fun o8 =>
    orL (fX5_all o8 h6.1) (fun xo12 =>
      if xo12.1 = 0 then
        ((gI xo12.2.2 xo12.2.1 6 6).bind fun v13 =>
        (pF xo12.2.2 a0 0 2 (.int v13)).bind fun h14 =>
        (gI h14 xo12.2.1 6 7).bind fun v15 =>
        some (((iI (-10)) - v15), h14))
      else
      none) fun o12 =>
    (gR o12 a0 0 3).bind fun r16 =>
    (gR o12 h6.1 5 1).bind fun r17 =>
    (fX1_takes o12 r16 r17).bind fun o18 =>
    (gR o18 h6.1 5 2).bind fun r19 =>
    (pF o18 a0 0 5 (.ref r19)).bind fun h20 =>
    (gI h20 h6.1 5 3).bind fun v21 =>
    (pF h20 a0 0 4 (.int v21)).bind fun h22 =>
    (gI h22 h6.1 5 4).bind fun v23 =>
    (pF h22 a0 0 6 (.int v23)).bind fun h24 =>
    (pF h24 a0 0 18 (.int (iI 0))).bind fun h25 =>
    (gR h25 a0 0 19).bind fun r26 =>
    (aQ 7 h25 r26 (iI 0)).bind fun v27 =>
    (pF h25 v27 2 3 (.int (iI 0))).bind fun h28 =>
    (gR h28 a0 0 19).bind fun r29 =>
    (aQ 7 h28 r29 (iI 1)).bind fun v30 =>
    (pF h28 v30 2 3 (.int (iI 0))).bind fun h31 =>
    (pF h31 a0 0 2 (.int (iI 0))).bind fun h32 =>
    (gI h32 h6.1 5 6).bind fun v33 =>
    some (v33, h32))
  else none
def fX0_fault (h : Hp) (a0 : Nat) : Option (Int32) :=
  if ep_cls h a0 = some 0 then
    ((gI h a0 0 2).bind fun v1 =>
    some v1)
  else none
def fX1_isSold (h : Hp) (a0 : Nat) (x1 : Int32) : Option (Int32) :=
  if ep_cls h a0 = some 1 then
    ((gR h a0 1 6).bind fun r1 =>
    (aI 0 h r1 x1).bind fun v2 =>
    if v2 = (iI (-4)) then
      (some (iI 1))
    else
    some (iI 0))
  else none
def fX1_isSilent (h : Hp) (a0 : Nat) (x1 : Int32) : Option (Int32) :=
  if ep_cls h a0 = some 1 then
    ((gR h a0 1 5).bind fun r1 =>
    (aI 0 h r1 x1).bind fun v2 =>
    if v2 = 0 then
      (some (iI 1))
    else
    (gR h a0 1 4).bind fun r4 =>
    (aI 0 h r4 x1).bind fun v5 =>
    if v5 = 0 then
      (some (iI 1))
    else
    some (iI 0))
  else none
def fX1_silent_L4 (h : Hp) (a0 : Nat) : Nat → Int32 → Int32 → Option (Int32)
  | 0, _, _ => none
  | fu + 1, x1, x2 =>
    (gI h a0 1 7).bind fun v2 =>
    if v2 ≤ x2 then
      (some x1)
    else
    (fX1_isSold h a0 x2).bind fun v4 =>
    (
      if v4 = 0 then
        ((fX1_isSilent h a0 x2).bind fun v7 =>
        if v7 = 0 then
          (some (iI 0))
        else
        some ((iI 1) <<< (x2 &&& 31)))
      else
      some (iI 0)).bind fun o5 =>
    fX1_silent_L4 h a0 fu (x1 ||| o5) (x2 + iI 1)
def fX1_silent (h : Hp) (a0 : Nat) : Option (Int32) :=
  if ep_cls h a0 = some 1 then
    ((fX1_silent_L4 h a0 FUEL (iI 0) (iI 0)).bind fun o1 =>
    some o1)
  else none
def fX0_rule (h : Hp) (a0 : Nat) (x1 : Int32) : Option (Int32) :=
  if ep_cls h a0 = some 0 then
    (if x1 = iI 0 then
      ((gI h a0 0 4).bind fun v9 =>
      some v9)
    else
    if x1 = iI 1 then
      ((gR h a0 0 3).bind fun r10 =>
      (gI h r10 1 7).bind fun v11 =>
      some v11)
    else
    if x1 = iI 2 then
      ((gI h a0 0 6).bind fun v12 =>
      some v12)
    else
    if x1 = iI 3 then
      ((gR h a0 0 3).bind fun r13 =>
      (gI h r13 1 9).bind fun v14 =>
      some v14)
    else
    if x1 = iI 4 then
      ((gR h a0 0 3).bind fun r15 =>
      (gI h r15 1 10).bind fun v16 =>
      some v16)
    else
    if x1 = iI 5 then
      ((gR h a0 0 3).bind fun r17 =>
      (fX1_in h r17 (iI (-4))).bind fun v18 =>
      some v18)
    else
    if x1 = iI 6 then
      ((gR h a0 0 3).bind fun r19 =>
      (fX1_silent h r19).bind fun v20 =>
      some v20)
    else
    if x1 = iI 7 then
      ((gR h a0 0 3).bind fun r21 =>
      (gI h r21 1 8).bind fun v22 =>
      some v22)
    else
    some (iI (-1)))
  else none
def fX0_isPen (h : Hp) (a0 : Nat) (x1 : Int32) : Option (Int32) :=
  if ep_cls h a0 = some 0 then
    ((gI h a0 0 4).bind fun v1 =>
    (fX0_isIn x1.toInt64 (lI 0) ((v1 - (iI 1)).toInt64)).bind fun v2 =>
    (ckZ v2).bind fun z =>
    some z)
  else none
def fX0_pen (h : Hp) (a0 : Nat) (x1 : Int32) (x2 : Int32) : Option (Int32) :=
  if ep_cls h a0 = some 0 then
    ((fX0_isPen h a0 x1).bind fun v1 =>
    if v1 = 0 then
      (some (iI (-1)))
    else
    (fX0_isIn x2.toInt64 (lI 0) (2 : Int64)).bind fun v3 =>
    if v3 = 0 then
      (some (iI (-1)))
    else
    if x2 = 0 then
      ((gR h a0 0 3).bind fun r12 =>
      (gR h r12 1 0).bind fun r13 =>
      (aI 0 h r13 x1).bind fun v14 =>
      some v14)
    else
    if x2 = (iI 1) then
      ((gR h a0 0 3).bind fun r9 =>
      (gR h r9 1 1).bind fun r10 =>
      (aI 0 h r10 x1).bind fun v11 =>
      some v11)
    else
    (gR h a0 0 3).bind fun r7 =>
    (fX1_in h r7 x1).bind fun v8 =>
    some v8)
  else none
def fX0_isEcho (h : Hp) (a0 : Nat) (x1 : Int32) : Option (Int32) :=
  if ep_cls h a0 = some 0 then
    ((gR h a0 0 3).bind fun r1 =>
    (gI h r1 1 7).bind fun v2 =>
    (fX0_isIn x1.toInt64 (lI 0) ((v2 - (iI 1)).toInt64)).bind fun v3 =>
    (ckZ v3).bind fun z =>
    some z)
  else none
def fV_returns (b : Int32) (x1 : Int32) (x2 : Int32) : Option Int32 :=
  if b = iI 0 then fX8_returns x1 x2 else
  if b = iI 1 then fX10_returns x1 x2 else
  if b = iI 2 then fX9_returns x1 x2 else
  if b = iI 3 then fX11_returns x1 x2 else
  none
def fV_gain (b : Int32) (x1 : Int32) : Option Int32 :=
  if b = iI 0 then fX8_gain x1 else
  if b = iI 1 then fX10_gain x1 else
  if b = iI 2 then fX9_gain x1 else
  if b = iI 3 then fX10_gain x1 else
  none
def fV_spoils (b : Int32) : Option Int32 :=
  if b = iI 0 then fX8_spoils else
  if b = iI 1 then fX8_spoils else
  if b = iI 2 then fX8_spoils else
  if b = iI 3 then fX11_spoils else
  none
def fX1_returns (h : Hp) (a0 : Nat) (x1 : Int32) : Option (Int32) :=
  if ep_cls h a0 = some 1 then
    ((fX1_isSold h a0 x1).bind fun v1 =>
    if v1 = 0 then
      ((fX1_isSilent h a0 x1).bind fun v3 =>
      if v3 = 0 then
        ((gR h a0 1 2).bind fun r5 =>
        (aI 0 h r5 x1).bind fun v6 =>
        (bck v6).bind fun u7 =>
        (gR h a0 1 5).bind fun r8 =>
        (aI 0 h r8 x1).bind fun v9 =>
        (gR h a0 1 0).bind fun r10 =>
        (gR h a0 1 6).bind fun r11 =>
        (aI 0 h r11 x1).bind fun v12 =>
        (aI 0 h r10 v12).bind fun v13 =>
        (fV_returns v6 v9 v13).bind fun v14 =>
        some v14)
      else
      some (iI 0))
    else
    some (iI 0))
  else none
def fX1_period (h : Hp) (a0 : Nat) (x1 : Int32) : Option (Int32) :=
  if ep_cls h a0 = some 1 then
    ((fX1_isSold h a0 x1).bind fun v1 =>
    if v1 = 0 then
      ((gR h a0 1 0).bind fun r3 =>
      (gR h a0 1 6).bind fun r4 =>
      (aI 0 h r4 x1).bind fun v5 =>
      (aI 0 h r3 v5).bind fun v6 =>
      (gR h a0 1 4).bind fun r7 =>
      (aI 0 h r7 x1).bind fun v8 =>
      some (v6 + v8))
    else
    some (iI 0))
  else none
def fX0_echo (h : Hp) (a0 : Nat) (x1 : Int32) (x2 : Int32) : Option (Int32) :=
  if ep_cls h a0 = some 0 then
    ((fX0_isEcho h a0 x1).bind fun v1 =>
    if v1 = 0 then
      (some (iI (-1)))
    else
    if x2 = iI 0 then
      ((gR h a0 0 3).bind fun r9 =>
      (gR h r9 1 2).bind fun r10 =>
      (aI 0 h r10 x1).bind fun v11 =>
      some v11)
    else
    if x2 = iI 1 then
      ((gR h a0 0 3).bind fun r12 =>
      (gR h r12 1 5).bind fun r13 =>
      (aI 0 h r13 x1).bind fun v14 =>
      some v14)
    else
    if x2 = iI 2 then
      ((gR h a0 0 3).bind fun r15 =>
      (gR h r15 1 6).bind fun r16 =>
      (aI 0 h r16 x1).bind fun v17 =>
      some v17)
    else
    if x2 = iI 3 then
      ((gR h a0 0 3).bind fun r18 =>
      (fX1_returns h r18 x1).bind fun v19 =>
      some v19)
    else
    if x2 = iI 4 then
      ((gR h a0 0 3).bind fun r20 =>
      (gR h r20 1 4).bind fun r21 =>
      (aI 0 h r21 x1).bind fun v22 =>
      some v22)
    else
    if x2 = iI 5 then
      ((gR h a0 0 3).bind fun r23 =>
      (fX1_period h r23 x1).bind fun v24 =>
      some v24)
    else
    some (iI (-1)))
  else none
def fX0_letter (h : Hp) (a0 : Nat) (x1 : Int32) (x2 : Int32) : Option (Int32) :=
  if ep_cls h a0 = some 0 then
    ((fX0_isEcho h a0 x1).bind fun v1 =>
    if v1 = 0 then
      (some (iI (-1)))
    else
    (gR h a0 0 3).bind fun r3 =>
    (gR h r3 1 4).bind fun r4 =>
    (aI 0 h r4 x1).bind fun v5 =>
    (fX0_isIn x2.toInt64 (lI 0) ((v5 - (iI 1)).toInt64)).bind fun v6 =>
    if v6 = 0 then
      (some (iI (-1)))
    else
    (gR h a0 0 3).bind fun r8 =>
    (gR h r8 1 3).bind fun r9 =>
    (aQ 4 h r9 x1).bind fun v10 =>
    (aI 1 h v10 x2).bind fun v11 =>
    some v11)
  else none
def fX0_isOrder (h : Hp) (a0 : Nat) (x1 : Int32) : Option (Int32) :=
  if ep_cls h a0 = some 0 then
    ((gI h a0 0 6).bind fun v1 =>
    (fX0_isIn x1.toInt64 (lI 0) ((v1 - (iI 1)).toInt64)).bind fun v2 =>
    (ckZ v2).bind fun z =>
    some z)
  else none
def fX0_order (h : Hp) (a0 : Nat) (x1 : Int32) (x2 : Int32) : Option (Int32) :=
  if ep_cls h a0 = some 0 then
    ((fX0_isOrder h a0 x1).bind fun v1 =>
    if v1 = 0 then
      (some (iI (-1)))
    else
    (gR h a0 0 5).bind fun r3 =>
    (aQ 6 h r3 x1).bind fun v4 =>
    if x2 = iI 0 then
      ((gI h v4 7 2).bind fun v9 =>
      some v9)
    else
    if x2 = iI 1 then
      ((gI h v4 7 3).bind fun v10 =>
      some v10)
    else
    if x2 = iI 2 then
      ((gI h v4 7 1).bind fun v11 =>
      some v11)
    else
    if x2 = iI 3 then
      ((gR h a0 0 3).bind fun r12 =>
      (gI h r12 1 8).bind fun v13 =>
      some ((v13 >>> (x1 &&& 31)) &&& (iI 1)))
    else
    (gI h v4 7 1).bind fun v14 =>
    (fX0_isIn x2.toInt64 (10 : Int64) ((((iI 10) + v14) - (iI 1)).toInt64)).bind fun v15 =>
    if v15 = 0 then
      (some (iI (-1)))
    else
    (gR h v4 7 0).bind fun r17 =>
    (aI 1 h r17 (x2 - (iI 10))).bind fun v18 =>
    some v18)
  else none
def fX0_hasRoom (h : Hp) (a0 : Nat) (a1 : Nat) (x2 : Int32) : Option (Int32) :=
  if ep_cls h a0 = some 0 then
    ((fX1_in h a1 x2).bind fun v1 =>
    (fJ9_bitCount v1).bind fun v2 =>
    if (iI 3) ≤ v2 then
      (some (iI 0))
    else
    some (iI 1))
  else none
def fX0_drives (h : Hp) (a0 : Nat) (x1 : Int32) (x2 : Int32) : Option (Int32 × Hp) :=
  if ep_cls h a0 = some 0 then
    ((fX0_isEcho h a0 x1).bind fun v1 =>
    if v1 = 0 then
      (some (iI (-1), h))
    else
    (fX0_isPen h a0 x2).bind fun v3 =>
    if v3 = 0 then
      (some (iI (-1), h))
    else
    (gR h a0 0 3).bind fun r5 =>
    (gR h r5 1 6).bind fun r6 =>
    (aI 0 h r6 x1).bind fun v7 =>
    if v7 = x2 then
      (some (iI (-2), h))
    else
    if v7 = (iI (-4)) then
      (some (iI (-2), h))
    else
    (gR h a0 0 3).bind fun r10 =>
    (fX0_hasRoom h a0 r10 x2).bind fun v11 =>
    if v11 = 0 then
      (some (iI (-3), h))
    else
    (gR h a0 0 3).bind fun r13 =>
    (gR h r13 1 6).bind fun r14 =>
    (aS 0 h r14 x1 x2).bind fun h15 =>
    some (v7, h15))
  else none
def fX0_drive (h : Hp) (a0 : Nat) (x1 : Int32) (x2 : Int32) : Option (Int32 × Hp) :=
  if ep_cls h a0 = some 0 then
    ((fX0_drives h a0 x1 x2).bind fun o1 =>
    some (o1.1, o1.2))
  else none
def fX0_sets (h : Hp) (a0 : Nat) (x1 : Int32) (x2 : Int32) : Option (Int32 × Hp) :=
  (aI 0 h a0 x1).bind fun v1 =>
  (aS 0 h a0 x1 x2).bind fun h2 =>
  some (v1, h2)
def fX0_fence (h : Hp) (a0 : Nat) (x1 : Int32) (x2 : Int32) (x3 : Int32) : Option (Int32 × Hp) :=
  if ep_cls h a0 = some 0 then
    ((fX0_isPen h a0 x1).bind fun v1 =>
    if v1 = 0 then
      (some (iI (-1), h))
    else
    (fX0_isIn x2.toInt64 (lI 0) (lI 1)).bind fun v3 =>
    if v3 = 0 then
      (some (iI (-1), h))
    else
    (
      if x2 = 0 then
        (some (9 : Int64))
      else
      (fJ3_length 0).bind fun v7 =>
      some ((v7 - (iI 1)).toInt64)).bind fun o5 =>
    (fX0_isIn x3.toInt64 (((iI 1) - x2).toInt64) o5).bind fun v8 =>
    if v8 = 0 then
      (some (iI (-1), h))
    else
    (
      if x2 = 0 then
        ((gR h a0 0 3).bind fun r14 =>
        (gR h r14 1 0).bind fun r15 =>
        some r15)
      else
      (gR h a0 0 3).bind fun r12 =>
      (gR h r12 1 1).bind fun r13 =>
      some r13).bind fun o10 =>
    (fX0_sets h o10 x1 x3).bind fun o16 =>
    some (o16.1, o16.2))
  else none
def fX0_raise (h : Hp) (a0 : Nat) (x1 : Int32) (x2 : Int32) (x3 : Int32) : Option (Int32 × Hp) :=
  if ep_cls h a0 = some 0 then
    ((fX0_isEcho h a0 x1).bind fun v1 =>
    if v1 = 0 then
      (some (iI (-1), h))
    else
    (fX0_isIn x2.toInt64 (lI 0) (lI 1)).bind fun v3 =>
    if v3 = 0 then
      (some (iI (-1), h))
    else
    (fX0_isIn x3.toInt64 (lI 0) (if x2 = 0 then (99 : Int64) else (3 : Int64))).bind fun v7 =>
    if v7 = 0 then
      (some (iI (-1), h))
    else
    (
      if x2 = 0 then
        ((gR h a0 0 3).bind fun r13 =>
        (gR h r13 1 5).bind fun r14 =>
        some r14)
      else
      (gR h a0 0 3).bind fun r11 =>
      (gR h r11 1 2).bind fun r12 =>
      some r12).bind fun o9 =>
    (fX0_sets h o9 x1 x3).bind fun o15 =>
    some (o15.1, o15.2))
  else none
def fX0_clip (h : Hp) (a0 : Nat) (x1 : Int32) : Option (Int32 × Hp) :=
  if ep_cls h a0 = some 0 then
    ((fX0_isEcho h a0 x1).bind fun v1 =>
    if v1 = 0 then
      (some (iI (-1), h))
    else
    (gR h a0 0 3).bind fun r3 =>
    (fX1_isSold h r3 x1).bind fun v4 =>
    if v4 = 0 then
      ((gR h a0 0 3).bind fun r6 =>
      (gR h r6 1 4).bind fun r7 =>
      (aI 0 h r7 x1).bind fun v8 =>
      if v8 = 0 then
        (some (iI (-2), h))
      else
      (gR h a0 0 3).bind fun r10 =>
      (gR h r10 1 4).bind fun r11 =>
      (aI 0 h r11 x1).bind fun v12 =>
      (aS 0 h r11 x1 (v12 - (iI 1))).bind fun h13 =>
      (gR h13 a0 0 3).bind fun r14 =>
      (gR h13 r14 1 4).bind fun r15 =>
      (aI 0 h13 r15 x1).bind fun v16 =>
      some (v16, h13))
    else
    some (iI (-2), h))
  else none
def fX0_teach (h : Hp) (a0 : Nat) (x1 : Int32) (x2 : Int32) : Option (Int32 × Hp) :=
  if ep_cls h a0 = some 0 then
    ((fX0_isEcho h a0 x1).bind fun v1 =>
    if v1 = 0 then
      (some (iI (-1), h))
    else
    (fX0_isIn x2.toInt64 (97 : Int64) (122 : Int64)).bind fun v3 =>
    if v3 = 0 then
      (some (iI (-1), h))
    else
    (gR h a0 0 3).bind fun r5 =>
    (fX1_isSold h r5 x1).bind fun v6 =>
    if v6 = 0 then
      ((gR h a0 0 3).bind fun r8 =>
      (gR h r8 1 4).bind fun r9 =>
      (aI 0 h r9 x1).bind fun v10 =>
      if v10 = (iI 5) then
        (some (iI (-3), h))
      else
      (gR h a0 0 3).bind fun r12 =>
      (gR h r12 1 3).bind fun r13 =>
      (aQ 4 h r13 x1).bind fun v14 =>
      (gR h a0 0 3).bind fun r15 =>
      (gR h r15 1 4).bind fun r16 =>
      (aI 0 h r16 x1).bind fun v17 =>
      (aS 1 h v14 v17 x2.toInt8.toInt32.toInt8.toInt32).bind fun h18 =>
      (gR h18 a0 0 3).bind fun r19 =>
      (gR h18 r19 1 4).bind fun r20 =>
      (aI 0 h18 r20 x1).bind fun v21 =>
      (aS 0 h18 r20 x1 (v21 + (iI 1))).bind fun h22 =>
      (gR h22 a0 0 3).bind fun r23 =>
      (gR h22 r23 1 4).bind fun r24 =>
      (aI 0 h22 r24 x1).bind fun v25 =>
      some (v25, h22))
    else
    some (iI (-2), h))
  else none
def fX0_cross (h : Hp) (a0 : Nat) (x1 : Int32) (x2 : Int32) : Option (Int32 × Hp) :=
  if ep_cls h a0 = some 0 then
    ((fX0_isEcho h a0 x1).bind fun v1 =>
    if v1 = 0 then
      (some (iI (-1), h))
    else
    (fX0_isEcho h a0 x2).bind fun v3 =>
    if v3 = 0 then
      (some (iI (-1), h))
    else
    if x1 = x2 then
      (some (iI (-1), h))
    else
    (gR h a0 0 3).bind fun r6 =>
    (fX1_isSold h r6 x1).bind fun v7 =>
    if v7 = 0 then
      ((gR h a0 0 3).bind fun r9 =>
      (gR h r9 1 6).bind fun r10 =>
      (aI 0 h r10 x1).bind fun v11 =>
      (gR h a0 0 3).bind fun r12 =>
      (gR h r12 1 6).bind fun r13 =>
      (aI 0 h r13 x2).bind fun v14 =>
      if v11 = v14 then
        ((gR h a0 0 3).bind fun r16 =>
        (gR h r16 1 3).bind fun r17 =>
        (aQ 4 h r17 x1).bind fun v18 =>
        (gR h a0 0 3).bind fun r19 =>
        (gR h r19 1 3).bind fun r20 =>
        (gR h a0 0 3).bind fun r21 =>
        (gR h r21 1 3).bind fun r22 =>
        (aQ 4 h r22 x2).bind fun v23 =>
        (aPA 4 1 h r20 x1 v23).bind fun h24 =>
        (gR h24 a0 0 3).bind fun r25 =>
        (gR h24 r25 1 3).bind fun r26 =>
        (aPA 4 1 h24 r26 x2 v18).bind fun h27 =>
        (gR h27 a0 0 3).bind fun r28 =>
        (gR h27 r28 1 4).bind fun r29 =>
        (gR h27 a0 0 3).bind fun r30 =>
        (gR h27 r30 1 4).bind fun r31 =>
        (gR h27 a0 0 3).bind fun r32 =>
        (gR h27 r32 1 4).bind fun r33 =>
        (aI 0 h27 r33 x2).bind fun v34 =>
        (fX0_sets h27 r31 x1 v34).bind fun o35 =>
        (aS 0 o35.2 r29 x2 o35.1).bind fun h36 =>
        (gR h36 a0 0 3).bind fun r37 =>
        (gR h36 r37 1 4).bind fun r38 =>
        (aI 0 h36 r38 x1).bind fun v39 =>
        some (v39, h36))
      else
      some (iI (-2), h))
    else
    some (iI (-2), h))
  else none
def fX1_isSpoiled_L4 (h : Hp) (a0 : Nat) (x1 : Int32) : Nat → Int32 → Int32 → Option (Int32)
  | 0, _, _ => none
  | fu + 1, x2, x3 =>
    (gI h a0 1 7).bind fun v2 =>
    if v2 ≤ x3 then
      (some x2)
    else
    (
      if x2 = 0 then
        ((gR h a0 1 6).bind fun r6 =>
        (aI 0 h r6 x3).bind fun v7 =>
        if v7 = x1 then
          ((gR h a0 1 2).bind fun r9 =>
          (aI 0 h r9 x3).bind fun v10 =>
          (bck v10).bind fun u11 =>
          (fV_spoils v10).bind fun v12 =>
          if v12 = 0 then
            (some (iI 0))
          else
          (fX1_isSilent h a0 x3).bind fun v14 =>
          if v14 = 0 then
            (some (iI 1))
          else
          some (iI 0))
        else
        some (iI 0))
      else
      some (iI 1)).bind fun o4 =>
    fX1_isSpoiled_L4 h a0 x1 fu o4 (x3 + iI 1)
def fX1_isSpoiled (h : Hp) (a0 : Nat) (x1 : Int32) : Option (Int32) :=
  if ep_cls h a0 = some 1 then
    ((fX1_isSpoiled_L4 h a0 x1 FUEL (iI 0) (iI 0)).bind fun o1 =>
    (ckZ o1).bind fun z =>
    some z)
  else none
def fX1_grows_L4 (h : Hp) (a0 : Nat) (x1 : Int32) : Nat → Int32 → Int32 → Option (Int32)
  | 0, _, _ => none
  | fu + 1, x2, x3 =>
    (gR h a0 1 4).bind fun r2 =>
    (aI 0 h r2 x1).bind fun v3 =>
    if v3 ≤ x3 then
      (some x2)
    else
    (gR h a0 1 3).bind fun r5 =>
    (aQ 4 h r5 x1).bind fun v6 =>
    (aI 1 h v6 x3).bind fun v7 =>
    (gR h a0 1 1).bind fun r8 =>
    (gR h a0 1 6).bind fun r9 =>
    (aI 0 h r9 x1).bind fun v10 =>
    (aI 0 h r8 v10).bind fun v11 =>
    (fJ3_charAt 0 v11).bind fun v12 =>
    fX1_grows_L4 h a0 x1 fu (x2 + (if v7 = v12 then iI 1 else iI 0)) (x3 + iI 1)
def fX1_grows (h : Hp) (a0 : Nat) (x1 : Int32) : Option (Hp) :=
  if ep_cls h a0 = some 1 then
    ((fX1_grows_L4 h a0 x1 FUEL (iI 0) (iI 0)).bind fun o1 =>
    (gR h a0 1 5).bind fun r15 =>
    (gR h a0 1 5).bind fun r16 =>
    (aI 0 h r16 x1).bind fun v17 =>
    (gR h a0 1 2).bind fun r18 =>
    (aI 0 h r18 x1).bind fun v19 =>
    (bck v19).bind fun u20 =>
    (fV_gain v19 o1).bind fun v21 =>
    (aS 0 h r15 x1 (if (iI 0) < (if ((v17 + v21) - (iI 1)) < (iI 99) then ((v17 + v21) - (iI 1)) else (iI 99)) then (if ((v17 + v21) - (iI 1)) < (iI 99) then ((v17 + v21) - (iI 1)) else (iI 99)) else (iI 0))).bind fun h22 =>
    some h22)
  else none
def fX1_week_L84 (a0 : Nat) : Nat → Hp → Int32 → Option (Hp)
  | 0, _, _ => none
  | fu + 1, h, x1 =>
    (gI h a0 1 7).bind fun v22 =>
    if v22 ≤ x1 then
      (some h)
    else
    (fX1_isSold h a0 x1).bind fun v24 =>
    (
      if v24 = 0 then
        ((fX1_isSilent h a0 x1).bind fun v27 =>
        if v27 = 0 then
          ((fX1_grows h a0 x1).bind fun o29 =>
          some o29)
        else
        some h)
      else
      some h).bind fun o25 =>
    fX1_week_L84 a0 fu o25 (x1 + iI 1)
def fX1_week_L15 (a0 : Nat) (x1 : Int32) (x2 : Int32) : Nat → Hp → Int32 → Option (Hp)
  | 0, _, _ => none
  | fu + 1, h, x3 =>
    (gI h a0 1 7).bind fun v5 =>
    if v5 ≤ x3 then
      (some h)
    else
    if x2 = 0 then
      (some h)
    else
    (gR h a0 1 4).bind fun r8 =>
    (aI 0 h r8 x3).bind fun v9 =>
    (gR h a0 1 6).bind fun r10 =>
    (aI 0 h r10 x3).bind fun v11 =>
    (
      if v11 = x1 then
        ((gR h a0 1 2).bind fun r14 =>
        (aI 0 h r14 x3).bind fun v15 =>
        if v15 = (iI 3) then
          (some (iI 0))
        else
        (gR h a0 1 4).bind fun r17 =>
        (aI 0 h r17 x3).bind fun v18 =>
        if v18 ≤ 0 then
          (some (iI 0))
        else
        some (iI 1))
      else
      some (iI 0)).bind fun o12 =>
    (aS 0 h r8 x3 (v9 - o12)).bind fun h20 =>
    fX1_week_L15 a0 x1 x2 fu h20 (x3 + iI 1)
def fX1_week_L2 (a0 : Nat) : Nat → Hp → Int32 → Option (Hp)
  | 0, _, _ => none
  | fu + 1, h, x1 =>
    if (iI 4) ≤ x1 then
      (some h)
    else
    (fX1_isSpoiled h a0 x1).bind fun v3 =>
    (fX1_week_L15 a0 x1 v3 FUEL h (iI 0)).bind fun o4 =>
    fX1_week_L2 a0 fu o4 (x1 + iI 1)
def fX1_week (h : Hp) (a0 : Nat) : Option (Hp) :=
  if ep_cls h a0 = some 1 then
    ((fX1_week_L2 a0 FUEL h (iI 0)).bind fun o1 =>
    (fX1_week_L84 a0 FUEL o1 (iI 0)).bind fun o21 =>
    (gI o21 a0 1 9).bind fun v30 =>
    (pF o21 a0 1 9 (.int (v30 + (iI 1)))).bind fun h31 =>
    some h31)
  else none
def fX0_goes_L2 (a1 : Nat) (x2 : Int32) : Nat → Hp → Int32 → Option (Hp)
  | 0, _, _ => none
  | fu + 1, h, x3 =>
    if x2 ≤ x3 then
      (some h)
    else
    (fX1_week h a1).bind fun o3 =>
    fX0_goes_L2 a1 x2 fu o3 (x3 + iI 1)
def fX0_goes (h : Hp) (a0 : Nat) (a1 : Nat) (x2 : Int32) : Option (Hp) :=
  if ep_cls h a0 = some 0 then
    ((fX0_goes_L2 a1 x2 FUEL h (iI 0)).bind fun o1 =>
    some o1)
  else none
def fX0_go (h : Hp) (a0 : Nat) (x1 : Int32) : Option (Int32 × Hp) :=
  if ep_cls h a0 = some 0 then
    ((fX0_isIn x1.toInt64 (lI 0) (30 : Int64)).bind fun v1 =>
    if v1 = 0 then
      (some (iI (-1), h))
    else
    (gR h a0 0 3).bind fun r3 =>
    (gI h r3 1 9).bind fun v4 =>
    if (v4 + x1) ≤ (iI 999) then
      ((gR h a0 0 3).bind fun r6 =>
      (fX1_silent h r6).bind fun v7 =>
      (gR h a0 0 3).bind fun r8 =>
      (fX0_goes h a0 r8 x1).bind fun o9 =>
      (gR o9 a0 0 3).bind fun r10 =>
      (fX1_silent o9 r10).bind fun v11 =>
      (fJ9_bitCount (v11 &&& (v7 ^^^ (iI (-1))))).bind fun v12 =>
      some (v12, o9))
    else
    some (iI (-3), h))
  else none
def fX0_ahead (h : Hp) (a0 : Nat) (x1 : Int32) (x2 : Int32) (x3 : Int32) : Option (Int32 × Hp) :=
  if ep_cls h a0 = some 0 then
    ((fX0_isEcho h a0 x1).bind fun v1 =>
    if v1 = 0 then
      (some (iI (-1), h))
    else
    (fX0_isIn x2.toInt64 (lI 0) (30 : Int64)).bind fun v3 =>
    if v3 = 0 then
      (some (iI (-1), h))
    else
    (fX0_isIn x3.toInt64 (lI 0) (2 : Int64)).bind fun v5 =>
    if v5 = 0 then
      (some (iI (-1), h))
    else
    (gR h a0 0 7).bind fun r7 =>
    (gR h a0 0 3).bind fun r8 =>
    (fX1_takes h r7 r8).bind fun o9 =>
    (gR o9 a0 0 7).bind fun r10 =>
    (fX0_goes o9 a0 r10 x2).bind fun o11 =>
    if x3 = 0 then
      ((gR o11 a0 0 7).bind fun r19 =>
      (gR o11 r19 1 5).bind fun r20 =>
      (aI 0 o11 r20 x1).bind fun v21 =>
      some (v21, o11))
    else
    if x3 = (iI 1) then
      ((gR o11 a0 0 7).bind fun r16 =>
      (gR o11 r16 1 4).bind fun r17 =>
      (aI 0 o11 r17 x1).bind fun v18 =>
      some (v18, o11))
    else
    (gR o11 a0 0 7).bind fun r14 =>
    (fX1_returns o11 r14 x1).bind fun v15 =>
    some (v15, o11))
  else none
def fX0_endsSo_L32 (h : Hp) (a1 : Nat) (x2 : Int32) (a4 : Nat) : Nat → Int32 → Int32 → Option (Int32)
  | 0, _, _ => none
  | fu + 1, x5, x6 =>
    (gI h a4 7 1).bind fun v9 =>
    if v9 ≤ x6 then
      (some x5)
    else
    if x5 = 0 then
      (some x5)
    else
    (gR h a1 1 3).bind fun r12 =>
    (aQ 4 h r12 x2).bind fun v13 =>
    (gR h a1 1 4).bind fun r14 =>
    (aI 0 h r14 x2).bind fun v15 =>
    (gI h a4 7 1).bind fun v16 =>
    (aI 1 h v13 ((v15 - v16) + x6)).bind fun v17 =>
    (gR h a4 7 0).bind fun r18 =>
    (aI 1 h r18 x6).bind fun v19 =>
    fX0_endsSo_L32 h a1 x2 a4 fu (if v17 = v19 then iI 1 else iI 0) (x6 + iI 1)
def fX0_endsSo (h : Hp) (a0 : Nat) (a1 : Nat) (x2 : Int32) (x3 : Int32) : Option (Int32) :=
  if ep_cls h a0 = some 0 then
    ((gR h a0 0 5).bind fun r1 =>
    (aQ 6 h r1 x3).bind fun v2 =>
    (gR h a1 1 4).bind fun r3 =>
    (aI 0 h r3 x2).bind fun v4 =>
    (gI h v2 7 1).bind fun v5 =>
    (fX0_endsSo_L32 h a1 x2 v2 FUEL (if v4 < v5 then iI 0 else iI 1) (iI 0)).bind fun o8 =>
    (ckZ o8).bind fun z =>
    some z)
  else none
def fX0_doesMeet (h : Hp) (a0 : Nat) (a1 : Nat) (x2 : Int32) (x3 : Int32) : Option (Int32) :=
  if ep_cls h a0 = some 0 then
    ((gI h a1 1 8).bind fun v1 =>
    (fX0_has v1 x3).bind fun v2 =>
    if v2 = 0 then
      ((fX1_isSold h a1 x2).bind fun v4 =>
      if v4 = 0 then
        ((fX1_returns h a1 x2).bind fun v6 =>
        (gR h a0 0 5).bind fun r7 =>
        (aQ 6 h r7 x3).bind fun v8 =>
        (gI h v8 7 2).bind fun v9 =>
        if v6 < v9 then
          (some (iI 0))
        else
        (fX0_endsSo h a0 a1 x2 x3).bind fun v11 =>
        if v11 = 0 then
          (some (iI 0))
        else
        some (iI 1))
      else
      some (iI 0))
    else
    some (iI 0))
  else none
def fX0_when_L31 (a0 : Nat) (x1 : Int32) (x2 : Int32) : Nat → Hp → Int32 → Option ((Int32 × Hp) ⊕ (Hp))
  | 0, _, _ => none
  | fu + 1, h, x3 =>
    if (iI 30) < x3 then
      (some (.inr h))
    else
    (gR h a0 0 7).bind fun r10 =>
    (fX0_doesMeet h a0 r10 x1 x2).bind fun v11 =>
    if v11 = 0 then
      ((gR h a0 0 7).bind fun r13 =>
      (fX1_week h r13).bind fun o14 =>
      fX0_when_L31 a0 x1 x2 fu o14 (x3 + iI 1))
    else
    some (.inl (x3, h))
def fX0_when (h : Hp) (a0 : Nat) (x1 : Int32) (x2 : Int32) : Option (Int32 × Hp) :=
  if ep_cls h a0 = some 0 then
    ((fX0_isEcho h a0 x1).bind fun v1 =>
    if v1 = 0 then
      (some (iI (-1), h))
    else
    (fX0_isOrder h a0 x2).bind fun v3 =>
    if v3 = 0 then
      (some (iI (-1), h))
    else
    (gR h a0 0 7).bind fun r5 =>
    (gR h a0 0 3).bind fun r6 =>
    (fX1_takes h r5 r6).bind fun o7 =>
    orL (fX0_when_L31 a0 x1 x2 FUEL o7 (iI 0)) (fun r => some r) fun o8 =>
    some (iI (-4), o8))
  else none
def fX1_isHeard (h : Hp) (a0 : Nat) (x1 : Int32) (x2 : Int32) : Option (Int32) :=
  if ep_cls h a0 = some 1 then
    ((gR h a0 1 2).bind fun r1 =>
    (aI 0 h r1 x1).bind fun v2 =>
    (fX1_returns h a0 x1).bind fun v5 =>
    if v5 ≤ 0 then
      (some (iI 0))
    else
    (fX1_period h a0 x1).bind fun v7 =>
    (rmI x2 v7).bind fun v8 =>
    if v8 = 0 then
      ((fX1_period h a0 x1).bind fun v10 =>
      (dvI x2 v10).bind fun v11 =>
      (fX0_isIn v11.toInt64 (if (if v2 = (iI 2) then iI 1 else iI 0) = 0 then lI 1 else lI 0) (if (if v2 = (iI 2) then iI 1 else iI 0) = 0 then v5.toInt64 else (v5 - (iI 1)).toInt64)).bind fun v16 =>
      if v16 = 0 then
        (some (iI 0))
      else
      some (iI 1))
    else
    some (iI 0))
  else none
def fX0_heardIn_L6 (h : Hp) (a1 : Nat) (x2 : Int32) (x3 : Int32) : Nat → Int32 → Int32 → Option (Int32)
  | 0, _, _ => none
  | fu + 1, x4, x5 =>
    (gI h a1 1 7).bind fun v2 =>
    if v2 ≤ x5 then
      (some x4)
    else
    (gR h a1 1 6).bind fun r4 =>
    (aI 0 h r4 x5).bind fun v5 =>
    (
      if v5 = x2 then
        ((fX1_isHeard h a1 x5 x3).bind fun v8 =>
        if v8 = 0 then
          (some (iI 0))
        else
        some ((iI 1) <<< (x5 &&& 31)))
      else
      some (iI 0)).bind fun o6 =>
    fX0_heardIn_L6 h a1 x2 x3 fu (x4 ||| o6) (x5 + iI 1)
def fX0_heardIn (h : Hp) (a0 : Nat) (a1 : Nat) (x2 : Int32) (x3 : Int32) : Option (Int32) :=
  if ep_cls h a0 = some 0 then
    ((fX0_heardIn_L6 h a1 x2 x3 FUEL (iI 0) (iI 0)).bind fun o1 =>
    some o1)
  else none
def fX0_heard (h : Hp) (a0 : Nat) (x1 : Int32) (x2 : Int32) : Option (Int32) :=
  if ep_cls h a0 = some 0 then
    ((fX0_isPen h a0 x1).bind fun v1 =>
    if v1 = 0 then
      (some (iI (-1)))
    else
    (fX0_isIn x2.toInt64 (lI 0) (99 : Int64)).bind fun v3 =>
    if v3 = 0 then
      (some (iI (-1)))
    else
    (gR h a0 0 3).bind fun r5 =>
    (fX0_heardIn h a0 r5 x1 x2).bind fun v6 =>
    some v6)
  else none
def fX0_together_L12 (h : Hp) (a0 : Nat) (x1 : Int32) : Nat → Int32 → Option ((Int32) ⊕ (Unit))
  | 0, _ => none
  | fu + 1, x2 =>
    if (iI 99) < x2 then
      (some (.inr ()))
    else
    (gR h a0 0 3).bind fun r5 =>
    (fX1_in h r5 x1).bind fun v6 =>
    if v6 = 0 then
      (some (.inr ()))
    else
    (gR h a0 0 3).bind fun r8 =>
    (fX0_heardIn h a0 r8 x1 x2).bind fun v9 =>
    (gR h a0 0 3).bind fun r10 =>
    (fX1_in h r10 x1).bind fun v11 =>
    if v9 = v11 then
      (some (.inl x2))
    else
    fX0_together_L12 h a0 x1 fu (x2 + iI 1)
def fX0_together (h : Hp) (a0 : Nat) (x1 : Int32) : Option (Int32) :=
  if ep_cls h a0 = some 0 then
    ((fX0_isPen h a0 x1).bind fun v1 =>
    if v1 = 0 then
      (some (iI (-1)))
    else
    orL (fX0_together_L12 h a0 x1 FUEL (iI 0)) (fun r => some r) fun o3 =>
    some (iI (-4)))
  else none
def fX0_still_L15 (h : Hp) (a0 : Nat) (x1 : Int32) : Nat → Int32 → Int32 → Option (Int32)
  | 0, _, _ => none
  | fu + 1, x2, x3 =>
    (gR h a0 0 3).bind fun r4 =>
    (gI h r4 1 7).bind fun v5 =>
    if v5 ≤ x3 then
      (some x2)
    else
    (gR h a0 0 3).bind fun r7 =>
    (gR h r7 1 6).bind fun r8 =>
    (aI 0 h r8 x3).bind fun v9 =>
    (
      if v9 = x1 then
        ((gR h a0 0 3).bind fun r12 =>
        (fX1_returns h r12 x3).bind fun v13 =>
        some v13)
      else
      some (iI 0)).bind fun o10 =>
    (gR h a0 0 3).bind fun r14 =>
    (fX1_period h r14 x3).bind fun v15 =>
    (gR h a0 0 3).bind fun r16 =>
    (gR h r16 1 2).bind fun r17 =>
    (aI 0 h r17 x3).bind fun v18 =>
    nmI (if o10 ≤ 0 then x2 else (if x2 < (v15 * (if v18 = (iI 2) then (o10 - (iI 1)) else o10)) then (v15 * (if v18 = (iI 2) then (o10 - (iI 1)) else o10)) else x2)) fun x_23 =>
    fX0_still_L15 h a0 x1 fu x_23 (x3 + iI 1)
def fX0_still (h : Hp) (a0 : Nat) (x1 : Int32) : Option (Int32) :=
  if ep_cls h a0 = some 0 then
    ((fX0_isPen h a0 x1).bind fun v1 =>
    if v1 = 0 then
      (some (iI (-1)))
    else
    (fX0_still_L15 h a0 x1 FUEL (iI (-4)) (iI 0)).bind fun o3 =>
    some o3)
  else none
def fX0_meets_L14 (h : Hp) (a0 : Nat) (x1 : Int32) : Nat → Int32 → Int32 → Option (Int32)
  | 0, _, _ => none
  | fu + 1, x2, x3 =>
    (gI h a0 0 6).bind fun v4 =>
    if v4 ≤ x3 then
      (some x2)
    else
    (gR h a0 0 3).bind fun r6 =>
    (fX0_doesMeet h a0 r6 x1 x3).bind fun v7 =>
    fX0_meets_L14 h a0 x1 fu (x2 ||| (if v7 = 0 then iI 0 else ((iI 1) <<< (x3 &&& 31)))) (x3 + iI 1)
def fX0_meets (h : Hp) (a0 : Nat) (x1 : Int32) : Option (Int32) :=
  if ep_cls h a0 = some 0 then
    ((fX0_isEcho h a0 x1).bind fun v1 =>
    if v1 = 0 then
      (some (iI (-1)))
    else
    (fX0_meets_L14 h a0 x1 FUEL (iI 0) (iI 0)).bind fun o3 =>
    some o3)
  else none
def fX0_sell (h : Hp) (a0 : Nat) (x1 : Int32) (x2 : Int32) : Option (Int32 × Hp) :=
  if ep_cls h a0 = some 0 then
    ((fX0_isEcho h a0 x1).bind fun v1 =>
    if v1 = 0 then
      (some (iI (-1), h))
    else
    (fX0_isOrder h a0 x2).bind fun v3 =>
    if v3 = 0 then
      (some (iI (-1), h))
    else
    (gR h a0 0 3).bind fun r5 =>
    (fX0_doesMeet h a0 r5 x1 x2).bind fun v6 =>
    if v6 = 0 then
      (some (iI (-2), h))
    else
    (gR h a0 0 3).bind fun r8 =>
    (gR h r8 1 6).bind fun r9 =>
    (aS 0 h r9 x1 (iI (-4))).bind fun h10 =>
    (gR h10 a0 0 3).bind fun r11 =>
    (gI h10 r11 1 8).bind fun v12 =>
    (pF h10 r11 1 8 (.int (v12 ||| ((iI 1) <<< (x2 &&& 31))))).bind fun h13 =>
    (gR h13 a0 0 3).bind fun r14 =>
    (gI h13 r14 1 10).bind fun v15 =>
    (gR h13 a0 0 5).bind fun r16 =>
    (aQ 6 h13 r16 x2).bind fun v17 =>
    (gI h13 v17 7 3).bind fun v18 =>
    (pF h13 r14 1 10 (.int (v15 + v18))).bind fun h19 =>
    (gR h19 a0 0 3).bind fun r20 =>
    (gI h19 r20 1 10).bind fun v21 =>
    some (v21, h19))
  else none
def fX0_sells_L60 (rec : Hp → Nat → Nat → Int32 → Int32 → Int32 → Option (Hp)) (a0 : Nat) (a1 : Nat) (x2 : Int32) (x3 : Int32) (x4 : Int32) : Nat → Hp → Int32 → Option (Hp)
  | 0, _, _ => none
  | fu + 1, h, x5 =>
    (gI h a1 1 7).bind fun v7 =>
    if v7 ≤ x5 then
      (some h)
    else
    (fX0_has x3 x5).bind fun v9 =>
    (
      if v9 = 0 then
        ((fX0_doesMeet h a0 a1 x5 x2).bind fun v12 =>
        if v12 = 0 then
          (some h)
        else
        (gR h a0 0 8).bind fun r14 =>
        (aS 0 h r14 x2 x5).bind fun h15 =>
        (gR h15 a0 0 5).bind fun r16 =>
        (aQ 6 h15 r16 x2).bind fun v17 =>
        (gI h15 v17 7 3).bind fun v18 =>
        (rec h15 a0 a1 (x2 + (iI 1)) (x3 ||| ((iI 1) <<< (x5 &&& 31))) (x4 + v18)).bind fun o19 =>
        some o19)
      else
      some h).bind fun o10 =>
    fX0_sells_L60 rec a0 a1 x2 x3 x4 fu o10 (x5 + iI 1)
def fX0_sells_B (rec : Hp → Nat → Nat → Int32 → Int32 → Int32 → Option (Hp)) (h : Hp) (a0 : Nat) (a1 : Nat) (x2 : Int32) (x3 : Int32) (x4 : Int32) : Option (Hp) :=
  if ep_cls h a0 = some 0 then
    ((gI h a0 0 6).bind fun v1 =>
    if x2 = v1 then
      ((gI h a0 0 10).bind fun v20 =>
      if x4 ≤ v20 then
        (some h)
      else
      (pF h a0 0 10 (.int x4)).bind fun h22 =>
      (gR h22 a0 0 8).bind fun r23 =>
      (gR h22 a0 0 9).bind fun r24 =>
      (cpA 0 h22 r23 (iI 0) r24 (iI 0) (iI 4)).bind fun h25 =>
      some h25)
    else
    (gR h a0 0 8).bind fun r3 =>
    (aS 0 h r3 x2 (iI (-4))).bind fun h4 =>
    (rec h4 a0 a1 (x2 + (iI 1)) x3 x4).bind fun o5 =>
    (fX0_sells_L60 rec a0 a1 x2 x3 x4 FUEL o5 (iI 0)).bind fun o6 =>
    some o6)
  else none
def fX0_sells : Nat → Hp → Nat → Nat → Int32 → Int32 → Int32 → Option (Hp)
  | 0, _, _, _, _, _, _ => none
  | d + 1, h, a0, a1, x2, x3, x4 => fX0_sells_B (fX0_sells d) h a0 a1 x2 x3 x4
def fX0_saleOf (h : Hp) (a0 : Nat) (a1 : Nat) : Option (Int32 × Hp) :=
  if ep_cls h a0 = some 0 then
    ((pF h a0 0 10 (.int (iI (-4)))).bind fun h1 =>
    (fX0_sells 6 h1 a0 a1 (iI 0) (iI 0) (iI 0)).bind fun o2 =>
    (gI o2 a0 0 10).bind fun v3 =>
    some (v3, o2))
  else none
def fX0_sale (h : Hp) (a0 : Nat) (x1 : Int32) : Option (Int32 × Hp) :=
  if ep_cls h a0 = some 0 then
    (orL (
      if x1 = 0 then
        (some (.inr ()))
      else
      (gI h a0 0 6).bind fun v3 =>
      (fX0_isIn x1.toInt64 (10 : Int64) ((((iI 10) + v3) - (iI 1)).toInt64)).bind fun v4 =>
      if v4 = 0 then
        (some (.inl (iI (-1), h)))
      else
      some (.inr ())) (fun r => some r) fun o1 =>
    (gR h a0 0 3).bind fun r6 =>
    (fX0_saleOf h a0 r6).bind fun o7 =>
    if x1 = 0 then
      ((gI o7.2 a0 0 10).bind fun v11 =>
      some (v11, o7.2))
    else
    (gR o7.2 a0 0 9).bind fun r9 =>
    (aI 0 o7.2 r9 (x1 - (iI 10))).bind fun v10 =>
    some (v10, o7.2))
  else none
def fX0_isAsSeen_L4 (h : Hp) (a0 : Nat) : Nat → Int32 → Int32 → Option (Int32)
  | 0, _, _ => none
  | fu + 1, x1, x2 =>
    (gI h a0 0 18).bind fun v2 =>
    if v2 ≤ x2 then
      (some x1)
    else
    if x1 = 0 then
      (some x1)
    else
    (gR h a0 0 11).bind fun r5 =>
    (gR h a0 0 17).bind fun r6 =>
    (aQ 5 h r6 x2).bind fun v7 =>
    (aI 0 h v7 (iI 0)).bind fun v8 =>
    (gR h a0 0 17).bind fun r9 =>
    (aQ 5 h r9 x2).bind fun v10 =>
    (aI 0 h v10 (iI 1)).bind fun v11 =>
    (fX0_heardIn h a0 r5 v8 v11).bind fun v12 =>
    (fJ9_bitCount v12).bind fun v13 =>
    (gR h a0 0 17).bind fun r14 =>
    (aQ 5 h r14 x2).bind fun v15 =>
    (aI 0 h v15 (iI 2)).bind fun v16 =>
    fX0_isAsSeen_L4 h a0 fu (if v13 = v16 then iI 1 else iI 0) (x2 + iI 1)
def fX0_isAsSeen (h : Hp) (a0 : Nat) : Option (Int32) :=
  if ep_cls h a0 = some 0 then
    ((fX0_isAsSeen_L4 h a0 FUEL (iI 1) (iI 0)).bind fun o1 =>
    (ckZ o1).bind fun z =>
    some z)
  else none
def fX0_weighs_L87 (a0 : Nat) (x2 : Int32) (x3 : Int32) : Nat → Hp → Int32 → Option (Hp)
  | 0, _, _ => none
  | fu + 1, h, x4 =>
    (gR h a0 0 11).bind fun r7 =>
    (gI h r7 1 7).bind fun v8 =>
    if v8 ≤ x4 then
      (some h)
    else
    (gR h a0 0 15).bind fun r10 =>
    (aI 0 h r10 x4).bind fun v11 =>
    (gR h a0 0 11).bind fun r12 =>
    (fX1_isSold h r12 x4).bind fun v13 =>
    (
      if v13 = 0 then
        ((gR h a0 0 11).bind fun r16 =>
        (gR h r16 1 6).bind fun r17 =>
        (aI 0 h r17 x4).bind fun v18 =>
        some ((iI 1) <<< (v18 &&& 31)))
      else
      some (iI 0)).bind fun o14 =>
    (aS 0 h r10 x4 (v11 ||| o14)).bind fun h19 =>
    fX0_weighs_L87 a0 x2 x3 fu h19 (x4 + iI 1)
def fX0_weighs (h : Hp) (a0 : Nat) (x1 : Int32) (x2 : Int32) (x3 : Int32) : Option (Hp) :=
  if ep_cls h a0 = some 0 then
    (if x1 < 0 then
      ((fX0_isAsSeen h a0).bind fun v2 =>
      if v2 = 0 then
        (some h)
      else
      (gI h a0 0 14).bind fun v4 =>
      (pF h a0 0 14 (.int (v4 + (iI 1)))).bind fun h5 =>
      (fX0_weighs_L87 a0 x2 x3 FUEL h5 (iI 0)).bind fun o6 =>
      (gR o6 a0 0 16).bind fun r20 =>
      (gR o6 a0 0 11).bind fun r21 =>
      (fX0_heardIn o6 a0 r21 x2 x3).bind fun v22 =>
      (fJ9_bitCount v22).bind fun v23 =>
      (aI 0 o6 r20 v23).bind fun v24 =>
      (aS 0 o6 r20 v23 (v24 + (iI 1))).bind fun h25 =>
      some h25)
    else
    (gR h a0 0 7).bind fun r26 =>
    (gR h a0 0 11).bind fun r27 =>
    (fX1_takes h r26 r27).bind fun o28 =>
    (gR o28 a0 0 7).bind fun r29 =>
    (fX0_goes o28 a0 r29 x1).bind fun o30 =>
    (gR o30 a0 0 7).bind fun r31 =>
    (fX0_saleOf o30 a0 r31).bind fun o32 =>
    (gI o32.2 a0 0 13).bind fun v33 =>
    if o32.1 ≤ v33 then
      (some o32.2)
    else
    (gI o32.2 a0 0 10).bind fun v35 =>
    (pF o32.2 a0 0 13 (.int v35)).bind fun h36 =>
    (gR h36 a0 0 11).bind fun r37 =>
    (gR h36 r37 1 6).bind fun r38 =>
    (gR h36 a0 0 12).bind fun r39 =>
    (cpA 0 h36 r38 (iI 0) r39 (iI 0) (iI 5)).bind fun h40 =>
    some h40)
  else none
def fX0_ways_L50 (rec : Hp → Nat → Int32 → Int32 → Int32 → Int32 → Option (Hp)) (a0 : Nat) (x1 : Int32) (x2 : Int32) (x3 : Int32) (x4 : Int32) : Nat → Hp → Int32 → Option (Hp)
  | 0, _, _ => none
  | fu + 1, h, x5 =>
    (gI h a0 0 4).bind fun v8 =>
    if v8 ≤ x5 then
      (some h)
    else
    (gR h a0 0 11).bind fun r10 =>
    (gR h r10 1 6).bind fun r11 =>
    (aS 0 h r11 x1 (iI (-4))).bind fun h12 =>
    (gR h12 a0 0 11).bind fun r13 =>
    (fX0_hasRoom h12 a0 r13 x5).bind fun v14 =>
    (
      if v14 = 0 then
        (some h12)
      else
      (gR h12 a0 0 11).bind fun r17 =>
      (gR h12 r17 1 6).bind fun r18 =>
      (aS 0 h12 r18 x1 x5).bind fun h19 =>
      (rec h19 a0 (x1 + (iI 1)) x2 x3 x4).bind fun o20 =>
      some o20).bind fun o15 =>
    fX0_ways_L50 rec a0 x1 x2 x3 x4 fu o15 (x5 + iI 1)
def fX0_ways_B (rec : Hp → Nat → Int32 → Int32 → Int32 → Int32 → Option (Hp)) (h : Hp) (a0 : Nat) (x1 : Int32) (x2 : Int32) (x3 : Int32) (x4 : Int32) : Option (Hp) :=
  if ep_cls h a0 = some 0 then
    ((gR h a0 0 11).bind fun r1 =>
    (gI h r1 1 7).bind fun v2 =>
    if x1 = v2 then
      ((fX0_weighs h a0 x2 x3 x4).bind fun o25 =>
      some o25)
    else
    (gR h a0 0 3).bind fun r4 =>
    (fX1_isSold h r4 x1).bind fun v5 =>
    if v5 = 0 then
      ((fX0_ways_L50 rec a0 x1 x2 x3 x4 FUEL h (iI 0)).bind fun o7 =>
      (gR o7 a0 0 11).bind fun r21 =>
      (gR o7 r21 1 6).bind fun r22 =>
      (aS 0 o7 r22 x1 (iI (-4))).bind fun h23 =>
      some h23)
    else
    (rec h a0 (x1 + (iI 1)) x2 x3 x4).bind fun o24 =>
    some o24)
  else none
def fX0_ways : Nat → Hp → Nat → Int32 → Int32 → Int32 → Int32 → Option (Hp)
  | 0, _, _, _, _, _, _ => none
  | d + 1, h, a0, x1, x2, x3, x4 => fX0_ways_B (fX0_ways d) h a0 x1 x2 x3 x4
def fX0_allWays_L14 (a0 : Nat) (x1 : Int32) (x2 : Int32) (x3 : Int32) : Nat → Hp → Int32 → Option (Hp)
  | 0, _, _ => none
  | fu + 1, h, x4 =>
    if (iI 5) ≤ x4 then
      (some h)
    else
    (gR h a0 0 11).bind fun r6 =>
    (gR h r6 1 6).bind fun r7 =>
    (aS 0 h r7 x4 (iI (-4))).bind fun h8 =>
    (gR h8 a0 0 15).bind fun r9 =>
    (aS 0 h8 r9 x4 (iI 0)).bind fun h10 =>
    (gR h10 a0 0 16).bind fun r11 =>
    (aS 0 h10 r11 x4 (iI 0)).bind fun h12 =>
    fX0_allWays_L14 a0 x1 x2 x3 fu h12 (x4 + iI 1)
def fX0_allWays (h : Hp) (a0 : Nat) (x1 : Int32) (x2 : Int32) (x3 : Int32) : Option (Hp) :=
  if ep_cls h a0 = some 0 then
    ((gR h a0 0 11).bind fun r1 =>
    (gR h a0 0 3).bind fun r2 =>
    (fX1_takes h r1 r2).bind fun o3 =>
    (fX0_allWays_L14 a0 x1 x2 x3 FUEL o3 (iI 0)).bind fun o4 =>
    (gR o4 a0 0 16).bind fun r13 =>
    (aS 0 o4 r13 (iI 5) (iI 0)).bind fun h14 =>
    (pF h14 a0 0 14 (.int (iI 0))).bind fun h15 =>
    (pF h15 a0 0 13 (.int (iI (-4)))).bind fun h16 =>
    (fX0_ways 7 h16 a0 (iI 0) x1 x2 x3).bind fun o17 =>
    some o17)
  else none
def fX0_best (h : Hp) (a0 : Nat) (x1 : Int32) (x2 : Int32) : Option (Int32 × Hp) :=
  if ep_cls h a0 = some 0 then
    ((fX0_isIn x1.toInt64 (lI 0) (8 : Int64)).bind fun v1 =>
    if v1 = 0 then
      (some (iI (-1), h))
    else
    orL (
      if x2 = 0 then
        (some (.inr ()))
      else
      (gR h a0 0 3).bind fun r5 =>
      (gI h r5 1 7).bind fun v6 =>
      (fX0_isIn x2.toInt64 (10 : Int64) ((((iI 10) + v6) - (iI 1)).toInt64)).bind fun v7 =>
      if v7 = 0 then
        (some (.inl (iI (-1), h)))
      else
      some (.inr ())) (fun r => some r) fun o3 =>
    (fX0_allWays h a0 x1 (iI 0) (iI 0)).bind fun o9 =>
    if x2 = 0 then
      ((gI o9 a0 0 13).bind fun v13 =>
      some (v13, o9))
    else
    (gR o9 a0 0 12).bind fun r11 =>
    (aI 0 o9 r11 (x2 - (iI 10))).bind fun v12 =>
    some (v12, o9))
  else none
def fX0_near_L34 (h : Hp) (a0 : Nat) (x1 : Int32) (x4 : Int32) : Nat → Int32 → Int32 → Int32 → Option (Int32 × Int32)
  | 0, _, _, _ => none
  | fu + 1, x2, x3, x5 =>
    (gR h a0 0 3).bind fun r7 =>
    (gI h r7 1 7).bind fun v8 =>
    if v8 ≤ x5 then
      (some (x2, x3))
    else
    (gR h a0 0 3).bind fun r10 =>
    (gI h r10 1 8).bind fun v11 =>
    (fX0_has v11 x4).bind fun v12 =>
    (
      if v12 = 0 then
        ((gR h a0 0 3).bind fun r15 =>
        (fX1_isSold h r15 x5).bind fun v16 =>
        if v16 = 0 then
          ((gR h a0 0 3).bind fun r18 =>
          (fX0_endsSo h a0 r18 x5 x4).bind fun v19 =>
          if v19 = 0 then
            (some (x2, x3))
          else
          (gR h a0 0 5).bind fun r21 =>
          (aQ 6 h r21 x4).bind fun v22 =>
          (gI h v22 7 2).bind fun v23 =>
          (gR h a0 0 3).bind fun r24 =>
          (fX1_returns h r24 x5).bind fun v25 =>
          nmI (if x2 ≤ (if (iI 0) < (v23 - v25) then (v23 - v25) else (iI 0)) then x3 else (((iI 10) * x4) + x5)) fun x_28 =>
          nmI (if (if (iI 0) < (v23 - v25) then (v23 - v25) else (iI 0)) < x2 then (if (iI 0) < (v23 - v25) then (v23 - v25) else (iI 0)) else x2) fun x_29 =>
          some (x_29, x_28))
        else
        some (x2, x3))
      else
      some (x2, x3)).bind fun o13 =>
    fX0_near_L34 h a0 x1 x4 fu o13.1 o13.2 (x5 + iI 1)
def fX0_near_L22 (h : Hp) (a0 : Nat) (x1 : Int32) : Nat → Int32 → Int32 → Int32 → Option (Int32 × Int32)
  | 0, _, _, _ => none
  | fu + 1, x2, x3, x4 =>
    (gI h a0 0 6).bind fun v4 =>
    if v4 ≤ x4 then
      (some (x2, x3))
    else
    (fX0_near_L34 h a0 x1 x4 FUEL x2 x3 (iI 0)).bind fun o6 =>
    fX0_near_L22 h a0 x1 fu o6.1 o6.2 (x4 + iI 1)
def fX0_near (h : Hp) (a0 : Nat) (x1 : Int32) : Option (Int32) :=
  if ep_cls h a0 = some 0 then
    ((fX0_isIn x1.toInt64 (lI 0) (lI 1)).bind fun v1 =>
    if v1 = 0 then
      (some (iI (-1)))
    else
    (fX0_near_L22 h a0 x1 FUEL (1000000 : Int32) (iI (-4)) (iI 0)).bind fun o3 =>
    if o3.2 = (iI (-4)) then
      (some o3.2)
    else
    if x1 = 0 then
      (some o3.2)
    else
    some o3.1)
  else none
def fX0_areFoxes (h : Hp) (a0 : Nat) (x1 : Int32) (x2 : Int32) (x3 : Int32) (x4 : Int32) : Option (Int32) :=
  if ep_cls h a0 = some 0 then
    ((fX0_isIn x1.toInt64 (lI 0) (10 : Int64)).bind fun v1 =>
    if v1 = 0 then
      (some (iI 0))
    else
    (fX0_isEcho h a0 x2).bind fun v3 =>
    if v3 = 0 then
      (some (iI 0))
    else
    (fX0_isIn x3.toInt64 (lI 0) (6 : Int64)).bind fun v5 =>
    if v5 = 0 then
      (some (iI 0))
    else
    (fX0_isIn x4.toInt64 (lI 0) (lI 1)).bind fun v7 =>
    if v7 = 0 then
      (some (iI 0))
    else
    some (iI 1))
  else none
def fX0_divisor_B (rec : Int64 → Int64 → Option (Int64)) (x0 : Int64) (x2 : Int64) : Option (Int64) :=
  if (lg_cmp x2 (lI 0)) = 0 then
    (some x0)
  else
  (rmL x0 x2).bind fun v2 =>
  (rec x2 v2).bind fun v3 =>
  some v3
def fX0_divisor : Nat → Int64 → Int64 → Option (Int64)
  | 0, _, _ => none
  | d + 1, x0, x2 => fX0_divisor_B (fX0_divisor d) x0 x2
def fX0_lowest (x0 : Int64) (x2 : Int64) (x4 : Int32) : Option (Int64) :=
  (fX0_divisor 60 x0 x2).bind fun v3 =>
  (dvL (if x4 = 0 then x0 else x2) v3).bind fun v4 =>
  some v4
def fX0_byFox_L9 (h : Hp) (a0 : Nat) (x1 : Int32) (x2 : Int32) (x3 : Int32) (x4 : Int32) (x5 : Int32) (x6 : Int64) : Nat → Int64 → Int32 → Option (Int64)
  | 0, _, _ => none
  | fu + 1, x8, x10 =>
    if x3 ≤ x10 then
      (some x8)
    else
    fX0_byFox_L9 h a0 x1 x2 x3 x4 x5 x6 fu (x8 * (10 : Int64)) (x10 + iI 1)
def fX0_byFox_L87 (h : Hp) (a0 : Nat) (x1 : Int32) (x2 : Int32) (x3 : Int32) (x4 : Int32) (x5 : Int32) (x6 : Int64) (x8 : Int64) (x10 : Int32) : Nat → Int64 → Int32 → Option (Int64)
  | 0, _, _ => none
  | fu + 1, x12, x14 =>
    if x3 ≤ x14 then
      (some x12)
    else
    (fX0_has x10 x14).bind fun v14 =>
    fX0_byFox_L87 h a0 x1 x2 x3 x4 x5 x6 x8 x10 fu (x12 * (if v14 = 0 then ((iI 10) - x1).toInt64 else x1.toInt64)) (x14 + iI 1)
def fX0_byFox_L32 (h : Hp) (a0 : Nat) (x1 : Int32) (x2 : Int32) (x3 : Int32) (x4 : Int32) (x5 : Int32) (x8 : Int64) : Nat → Int64 → Int32 → Option (Int64)
  | 0, _, _ => none
  | fu + 1, x6, x10 =>
    if ((iI 1) <<< (x3 &&& 31)) ≤ x10 then
      (some x6)
    else
    (gR h a0 0 3).bind fun r5 =>
    (gR h r5 1 4).bind fun r6 =>
    (aI 0 h r6 x2).bind fun v7 =>
    (fJ9_bitCount x10).bind fun v8 =>
    (fX0_byFox_L87 h a0 x1 x2 x3 x4 x5 x6 x8 x10 FUEL (if x4 = 0 then (if (if (iI 0) < (v7 - v8) then (v7 - v8) else (iI 0)) ≤ 0 then lI 0 else lI 1) else (if (iI 0) < (v7 - v8) then (v7 - v8) else (iI 0)).toInt64) (iI 0)).bind fun o12 =>
    fX0_byFox_L32 h a0 x1 x2 x3 x4 x5 x8 fu (x6 + o12) (x10 + iI 1)
def fX0_byFox (h : Hp) (a0 : Nat) (x1 : Int32) (x2 : Int32) (x3 : Int32) (x4 : Int32) (x5 : Int32) : Option (Int64) :=
  if ep_cls h a0 = some 0 then
    ((fX0_byFox_L9 h a0 x1 x2 x3 x4 x5 (lI 0) FUEL (lI 1) (iI 0)).bind fun o1 =>
    (fX0_byFox_L32 h a0 x1 x2 x3 x4 x5 o1 FUEL (lI 0) (iI 0)).bind fun o3 =>
    (fX0_lowest o3 o1 x5).bind fun v17 =>
    some v17)
  else none
def fX0_keeps (h : Hp) (a0 : Nat) (x1 : Int32) (x2 : Int32) (x3 : Int32) (x4 : Int32) : Option (Int64) :=
  if ep_cls h a0 = some 0 then
    ((fX0_areFoxes h a0 x1 x2 x3 x4).bind fun v1 =>
    if v1 = 0 then
      (some (-1 : Int64))
    else
    (fX0_byFox h a0 x1 x2 x3 (iI 0) x4).bind fun v3 =>
    some v3)
  else none
def fX0_mean (h : Hp) (a0 : Nat) (x1 : Int32) (x2 : Int32) (x3 : Int32) (x4 : Int32) : Option (Int64) :=
  if ep_cls h a0 = some 0 then
    ((fX0_areFoxes h a0 x1 x2 x3 x4).bind fun v1 =>
    if v1 = 0 then
      (some (-1 : Int64))
    else
    (fX0_byFox h a0 x1 x2 x3 (iI 1) x4).bind fun v3 =>
    some v3)
  else none
def fX0_see (h : Hp) (a0 : Nat) (x1 : Int32) (x2 : Int32) (x3 : Int32) : Option (Int32 × Hp) :=
  if ep_cls h a0 = some 0 then
    ((fX0_isPen h a0 x1).bind fun v1 =>
    if v1 = 0 then
      (some (iI (-1), h))
    else
    (fX0_isIn x2.toInt64 (lI 0) (99 : Int64)).bind fun v3 =>
    if v3 = 0 then
      (some (iI (-1), h))
    else
    (fX0_isIn x3.toInt64 (lI 0) (5 : Int64)).bind fun v5 =>
    if v5 = 0 then
      (some (iI (-1), h))
    else
    (gI h a0 0 18).bind fun v7 =>
    if v7 = (iI 6) then
      (some (iI (-3), h))
    else
    (gR h a0 0 17).bind fun r9 =>
    (gI h a0 0 18).bind fun v10 =>
    (aQ 5 h r9 v10).bind fun v11 =>
    (aS 0 h v11 (iI 0) x1).bind fun h12 =>
    (gR h12 a0 0 17).bind fun r13 =>
    (gI h12 a0 0 18).bind fun v14 =>
    (aQ 5 h12 r13 v14).bind fun v15 =>
    (aS 0 h12 v15 (iI 1) x2).bind fun h16 =>
    (gR h16 a0 0 17).bind fun r17 =>
    (gI h16 a0 0 18).bind fun v18 =>
    (aQ 5 h16 r17 v18).bind fun v19 =>
    (aS 0 h16 v19 (iI 2) x3).bind fun h20 =>
    (gI h20 a0 0 18).bind fun v21 =>
    (pF h20 a0 0 18 (.int (v21 + (iI 1)))).bind fun h22 =>
    (gI h22 a0 0 18).bind fun v23 =>
    some (v23, h22))
  else none
def fX0_forget (h : Hp) (a0 : Nat) (x1 : Int32) : Option (Int32 × Hp) :=
  if ep_cls h a0 = some 0 then
    ((gI h a0 0 18).bind fun v1 =>
    (fX0_isIn x1.toInt64 (lI 0) v1.toInt64).bind fun v2 =>
    if v2 = 0 then
      (some (iI (-1), h))
    else
    (gI h a0 0 18).bind fun v4 =>
    (pF h a0 0 18 (.int x1)).bind fun h5 =>
    some (v4, h5))
  else none
def fX0_fits (h : Hp) (a0 : Nat) (x1 : Int32) : Option (Int32 × Hp) :=
  if ep_cls h a0 = some 0 then
    (orL (
      if x1 = 0 then
        (some (.inr ()))
      else
      (gR h a0 0 3).bind fun r3 =>
      (gI h r3 1 7).bind fun v4 =>
      (fX0_isIn x1.toInt64 (10 : Int64) ((((iI 10) + v4) - (iI 1)).toInt64)).bind fun v5 =>
      if v5 = 0 then
        (some (.inl (iI (-1), h)))
      else
      some (.inr ())) (fun r => some r) fun o1 =>
    (fX0_allWays h a0 (iI (-4)) (iI 0) (iI 0)).bind fun o7 =>
    if x1 = 0 then
      ((gI o7 a0 0 14).bind fun v11 =>
      some (v11, o7))
    else
    (gR o7 a0 0 15).bind fun r9 =>
    (aI 0 o7 r9 (x1 - (iI 10))).bind fun v10 =>
    some (v10, o7))
  else none
def fX0_listen_L53 (h : Hp) (a0 : Nat) (x1 : Int32) (x2 : Int32) (x3 : Int32) (x4 : Int32) (x5 : Int32) : Nat → Int32 → Int32 → Option (Int32)
  | 0, _, _ => none
  | fu + 1, x6, x7 =>
    if (iI 5) < x7 then
      (some x6)
    else
    (gR h a0 0 16).bind fun r10 =>
    (aI 0 h r10 x7).bind fun v11 =>
    fX0_listen_L53 h a0 x1 x2 x3 x4 x5 fu (if x6 < v11 then v11 else x6) (x7 + iI 1)
def fX0_listen_L31 (a0 : Nat) (x1 : Int32) (x2 : Int32) : Nat → Hp → Int32 → Int32 → Int32 → Option (Hp × Int32 × Int32)
  | 0, _, _, _, _ => none
  | fu + 1, h, x3, x4, x5 =>
    if (iI 30) < x5 then
      (some (h, x3, x4))
    else
    (fX0_allWays h a0 (iI (-4)) x1 x5).bind fun o7 =>
    (fX0_listen_L53 o7 a0 x1 x2 x3 x4 x5 FUEL (iI 0) (iI 0)).bind fun o8 =>
    (gI o7 a0 0 14).bind fun v12 =>
    nmI (if (if v12 ≤ o8 then iI 0 else (if x3 ≤ o8 then iI 0 else iI 1)) = 0 then x4 else x5) fun x_18 =>
    nmI (if (if v12 ≤ o8 then iI 0 else (if x3 ≤ o8 then iI 0 else iI 1)) = 0 then x3 else o8) fun x_21 =>
    fX0_listen_L31 a0 x1 x2 fu o7 x_21 x_18 (x5 + iI 1)
def fX0_listen (h : Hp) (a0 : Nat) (x1 : Int32) (x2 : Int32) : Option (Int32 × Hp) :=
  if ep_cls h a0 = some 0 then
    ((fX0_isPen h a0 x1).bind fun v1 =>
    if v1 = 0 then
      (some (iI (-1), h))
    else
    (fX0_isIn x2.toInt64 (lI 0) (lI 1)).bind fun v3 =>
    if v3 = 0 then
      (some (iI (-1), h))
    else
    (fX0_listen_L31 a0 x1 x2 FUEL h (1000000 : Int32) (iI (-4)) (iI 0)).bind fun o5 =>
    if o5.2.2 = (iI (-4)) then
      (some (o5.2.2, o5.1))
    else
    if x2 = 0 then
      (some (o5.2.2, o5.1))
    else
    some (o5.2.1, o5.1))
  else none
def fX0_sum_L4 (h : Hp) (a0 : Nat) (x1 : Int32) : Nat → Int32 → Int32 → Option (Int32)
  | 0, _, _ => none
  | fu + 1, x2, x3 =>
    (gI h a0 1 7).bind fun v2 =>
    if v2 ≤ x3 then
      (some x2)
    else
    (fX1_isSold h a0 x3).bind fun v4 =>
    (
      if v4 = 0 then
        (if x1 = 0 then
          ((gR h a0 1 4).bind fun r8 =>
          (aI 0 h r8 x3).bind fun v9 =>
          some v9)
        else
        (gR h a0 1 5).bind fun r10 =>
        (aI 0 h r10 x3).bind fun v11 =>
        some v11)
      else
      some (iI 0)).bind fun o5 =>
    fX0_sum_L4 h a0 x1 fu (x2 + o5) (x3 + iI 1)
def fX0_sum (h : Hp) (a0 : Nat) (x1 : Int32) : Option (Int32) :=
  (fX0_sum_L4 h a0 x1 FUEL (iI 0) (iI 0)).bind fun o1 =>
  some o1
def fX0_drift_L54 (a0 : Nat) (x2 : Int32) (x3 : Int32) : Nat → Hp → Int32 → Int32 → Option (Hp)
  | 0, _, _, _ => none
  | fu + 1, h, x4, x5 =>
    if x2 ≤ x5 then
      (some h)
    else
    (gR h a0 0 3).bind fun r13 =>
    (gI h r13 1 7).bind fun v14 =>
    (rmI ((((x4 * (1103515245 : Int32)) + (iI 12345)) >>> ((iI 16) &&& 31)) &&& (iI 32767)) v14).bind fun v15 =>
    (gR h a0 0 7).bind fun r16 =>
    (gR h r16 1 4).bind fun r17 =>
    (aI 0 h r17 v15).bind fun v18 =>
    (gR h a0 0 7).bind fun r19 =>
    (fX1_isSold h r19 v15).bind fun v20 =>
    (
      if v20 = 0 then
        ((gR h a0 0 7).bind fun r23 =>
        (gR h r23 1 4).bind fun r24 =>
        (aI 0 h r24 v15).bind fun v25 =>
        if v25 ≤ 0 then
          (some (iI 0))
        else
        some (iI 1))
      else
      some (iI 0)).bind fun o21 =>
    (aS 0 h r17 v15 (v18 - o21)).bind fun h27 =>
    (gR h27 a0 0 7).bind fun r28 =>
    (fX1_week h27 r28).bind fun o29 =>
    fX0_drift_L54 a0 x2 x3 fu o29 ((x4 * (1103515245 : Int32)) + (iI 12345)) (x5 + iI 1)
def fX0_drift (h : Hp) (a0 : Nat) (x1 : Int32) (x2 : Int32) (x3 : Int32) : Option (Int32 × Hp) :=
  if ep_cls h a0 = some 0 then
    ((fX0_isIn x2.toInt64 (lI 1) (30 : Int64)).bind fun v1 =>
    if v1 = 0 then
      (some (iI (-1), h))
    else
    (fX0_isIn x3.toInt64 (lI 0) (lI 1)).bind fun v3 =>
    if v3 = 0 then
      (some (iI (-1), h))
    else
    (gR h a0 0 3).bind fun r5 =>
    (gI h r5 1 7).bind fun v6 =>
    if v6 = 0 then
      (some (iI (-2), h))
    else
    (gR h a0 0 7).bind fun r8 =>
    (gR h a0 0 3).bind fun r9 =>
    (fX1_takes h r8 r9).bind fun o10 =>
    (fX0_drift_L54 a0 x2 x3 FUEL o10 x1 (iI 0)).bind fun o11 =>
    (gR o11 a0 0 7).bind fun r30 =>
    (fX0_sum o11 r30 (if x3 = 0 then iI 1 else iI 0)).bind fun v33 =>
    some (v33, o11))
  else none
def fX0_copies_L2 (a0 : Nat) (a1 : Nat) : Nat → Hp → Int32 → Option (Hp)
  | 0, _, _ => none
  | fu + 1, h, x2 =>
    (aLn 5 h a0).bind fun v2 =>
    if v2 ≤ x2 then
      (some h)
    else
    (aQ 5 h a0 x2).bind fun v4 =>
    (aQ 5 h a1 x2).bind fun v5 =>
    (aQ 5 h a0 x2).bind fun v6 =>
    (aLn 0 h v6).bind fun v7 =>
    (cpA 0 h v4 (iI 0) v5 (iI 0) v7).bind fun h8 =>
    fX0_copies_L2 a0 a1 fu h8 (x2 + iI 1)
def fX0_copies (h : Hp) (a0 : Nat) (a1 : Nat) : Option (Hp) :=
  (fX0_copies_L2 a0 a1 FUEL h (iI 0)).bind fun o1 =>
  some o1
def fX2_takes (h : Hp) (a0 : Nat) : Option (Hp) :=
  if ep_cls h a0 = some 2 then
    ((gR h a0 2 0).bind fun r1 =>
    (gR h a0 2 4).bind fun r2 =>
    (gR h r2 0 3).bind fun r3 =>
    (fX1_takes h r1 r3).bind fun o4 =>
    (gR o4 a0 2 4).bind fun r5 =>
    (gR o4 r5 0 17).bind fun r6 =>
    (gR o4 a0 2 1).bind fun r7 =>
    (fX0_copies o4 r6 r7).bind fun o8 =>
    (gR o8 a0 2 4).bind fun r9 =>
    (gI o8 r9 0 18).bind fun v10 =>
    (pF o8 a0 2 2 (.int v10)).bind fun h11 =>
    some h11)
  else none
def fX0_keep (h : Hp) (a0 : Nat) (x1 : Int32) : Option (Int32 × Hp) :=
  if ep_cls h a0 = some 0 then
    ((fX0_isIn x1.toInt64 (lI 0) (lI 1)).bind fun v1 =>
    if v1 = 0 then
      (some (iI (-1), h))
    else
    (gR h a0 0 19).bind fun r3 =>
    (aQ 7 h r3 x1).bind fun v4 =>
    (gI h v4 2 3).bind fun v5 =>
    (gR h a0 0 19).bind fun r8 =>
    (aQ 7 h r8 x1).bind fun v9 =>
    (fX2_takes h v9).bind fun o10 =>
    (gR o10 a0 0 19).bind fun r11 =>
    (aQ 7 o10 r11 x1).bind fun v12 =>
    (pF o10 v12 2 3 (.int (iI 1))).bind fun h13 =>
    some ((if v5 = 0 then iI 0 else iI 1), h13))
  else none
def fX2_gives (h : Hp) (a0 : Nat) : Option (Hp) :=
  if ep_cls h a0 = some 2 then
    ((gR h a0 2 4).bind fun r1 =>
    (gR h r1 0 3).bind fun r2 =>
    (gR h a0 2 0).bind fun r3 =>
    (fX1_takes h r2 r3).bind fun o4 =>
    (gR o4 a0 2 1).bind fun r5 =>
    (gR o4 a0 2 4).bind fun r6 =>
    (gR o4 r6 0 17).bind fun r7 =>
    (fX0_copies o4 r5 r7).bind fun o8 =>
    (gR o8 a0 2 4).bind fun r9 =>
    (gI o8 a0 2 2).bind fun v10 =>
    (pF o8 r9 0 18 (.int v10)).bind fun h11 =>
    some h11)
  else none
def fX0_back (h : Hp) (a0 : Nat) (x1 : Int32) : Option (Int32 × Hp) :=
  if ep_cls h a0 = some 0 then
    ((fX0_isIn x1.toInt64 (lI 0) (lI 1)).bind fun v1 =>
    if v1 = 0 then
      (some (iI (-1), h))
    else
    (gR h a0 0 19).bind fun r3 =>
    (aQ 7 h r3 x1).bind fun v4 =>
    (gI h v4 2 3).bind fun v5 =>
    if v5 = 0 then
      (some (iI (-2), h))
    else
    (gR h a0 0 19).bind fun r7 =>
    (aQ 7 h r7 x1).bind fun v8 =>
    (fX2_gives h v8).bind fun o9 =>
    (gR o9 a0 0 3).bind fun r10 =>
    (gI o9 r10 1 10).bind fun v11 =>
    some (v11, o9))
  else none
def fX2_init (h : Hp) (a0 : Nat) (a1 : Nat) : Option (Hp) :=
  if ep_cls h a0 = some 2 then
    ((pF h a0 2 4 (.ref a1)).bind fun h1 =>
    (nwO 1 [.null, .null, .null, .null, .null, .null, .null, .int 0, .int 0, .int 0, .int 0] h1).bind fun h2 =>
    (fX1_init h2 h1.1).bind fun o3 =>
    (pF o3 a0 2 0 (.ref h1.1)).bind fun h4 =>
    (nwM 5 0 6 3 (iI 6) (iI 3) h4).bind fun h5 =>
    (pF h5 a0 2 1 (.ref h4.1)).bind fun h6 =>
    some h6)
  else none
def fX3_init (h : Hp) (a0 : Nat) : Option (Unit) :=
  if ep_cls h a0 = some 3 then
    (some ())
  else none
def fX0_init (h : Hp) (a0 : Nat) : Option (Hp) :=
  if ep_cls h a0 = some 0 then
    ((nwI 1 160 (iI 160) h).bind fun h1 =>
    (pF h1 a0 0 0 (.ref h.1)).bind fun h2 =>
    (nwO 1 [.null, .null, .null, .null, .null, .null, .null, .int 0, .int 0, .int 0, .int 0] h2).bind fun h3 =>
    (fX1_init h3 h2.1).bind fun o4 =>
    (pF o4 a0 0 3 (.ref h2.1)).bind fun h5 =>
    (nwQ 6 4 (iI 4) h5).bind fun h6 =>
    (pF h6 a0 0 5 (.ref h5.1)).bind fun h7 =>
    (nwO 1 [.null, .null, .null, .null, .null, .null, .null, .int 0, .int 0, .int 0, .int 0] h7).bind fun h8 =>
    (fX1_init h8 h7.1).bind fun o9 =>
    (pF o9 a0 0 7 (.ref h7.1)).bind fun h10 =>
    (nwI 0 4 (iI 4) h10).bind fun h11 =>
    (pF h11 a0 0 8 (.ref h10.1)).bind fun h12 =>
    (nwI 0 4 (iI 4) h12).bind fun h13 =>
    (pF h13 a0 0 9 (.ref h12.1)).bind fun h14 =>
    (nwO 1 [.null, .null, .null, .null, .null, .null, .null, .int 0, .int 0, .int 0, .int 0] h14).bind fun h15 =>
    (fX1_init h15 h14.1).bind fun o16 =>
    (pF o16 a0 0 11 (.ref h14.1)).bind fun h17 =>
    (nwI 0 5 (iI 5) h17).bind fun h18 =>
    (pF h18 a0 0 12 (.ref h17.1)).bind fun h19 =>
    (nwI 0 5 (iI 5) h19).bind fun h20 =>
    (pF h20 a0 0 15 (.ref h19.1)).bind fun h21 =>
    (nwI 0 6 (iI 6) h21).bind fun h22 =>
    (pF h22 a0 0 16 (.ref h21.1)).bind fun h23 =>
    (nwM 5 0 6 3 (iI 6) (iI 3) h23).bind fun h24 =>
    (pF h24 a0 0 17 (.ref h23.1)).bind fun h25 =>
    (nwQ 7 2 (iI 2) h25).bind fun h26 =>
    (nwO 2 [.null, .null, .int 0, .int 0, .null] h26).bind fun h27 =>
    (fX2_init h27 h26.1 a0).bind fun o28 =>
    (aP 7 2 o28 h25.1 (iI 0) h26.1).bind fun h29 =>
    (nwO 2 [.null, .null, .int 0, .int 0, .null] h29).bind fun h30 =>
    (fX2_init h30 h29.1 a0).bind fun o31 =>
    (aP 7 2 o31 h25.1 (iI 1) h29.1).bind fun h32 =>
    (pF h32 a0 0 19 (.ref h25.1)).bind fun h33 =>
    (nwO 1 [.null, .null, .null, .null, .null, .null, .null, .int 0, .int 0, .int 0, .int 0] h33).bind fun h34 =>
    (fX1_init h34 h33.1).bind fun o35 =>
    (pF o35 a0 0 20 (.ref h33.1)).bind fun h36 =>
    (nwQ 8 4 (iI 4) h36).bind fun h37 =>
    (nwO 3 [.null, .int 0] h37).bind fun h38 =>
    (fX3_init h38 h37.1).bind fun v39 =>
    (aP 8 3 h38 h36.1 (iI 0) h37.1).bind fun h40 =>
    (nwO 3 [.null, .int 0] h40).bind fun h41 =>
    (fX3_init h41 h40.1).bind fun v42 =>
    (aP 8 3 h41 h36.1 (iI 1) h40.1).bind fun h43 =>
    (nwO 3 [.null, .int 0] h43).bind fun h44 =>
    (fX3_init h44 h43.1).bind fun v45 =>
    (aP 8 3 h44 h36.1 (iI 2) h43.1).bind fun h46 =>
    (nwO 3 [.null, .int 0] h46).bind fun h47 =>
    (fX3_init h47 h46.1).bind fun v48 =>
    (aP 8 3 h47 h36.1 (iI 3) h46.1).bind fun h49 =>
    (pF h49 a0 0 21 (.ref h36.1)).bind fun h50 =>
    some h50)
  else none
def fX0_newRow (h : Hp) (x0 : Int32) (x1 : Int32) : Option (Thr ⊕ (Nat × Hp)) :=
  if x0 = iI 0 then
    (if x1 < 0 then
      (some (.inl (4, h.1 + 2, thH 3 h)))
    else
    (nwI 1 40 x1 h).bind fun h4 =>
    some (.inr (h.1, h4)))
  else
  if x0 = iI 1 then
    (if x1 < 0 then
      (some (.inl (4, h.1 + 2, thH 3 h)))
    else
    (nwI 2 40 x1 h).bind fun h6 =>
    some (.inr (h.1, h6)))
  else
  if x1 < 0 then
    (some (.inl (4, h.1 + 2, thH 3 h)))
  else
  (nwI 0 40 x1 h).bind fun h8 =>
  some (.inr (h.1, h8))
def fX0_sheet (h : Hp) (a0 : Nat) (x1 : Int32) (x2 : Int32) (x3 : Int32) : Option (Int32 × Hp) :=
  if ep_cls h a0 = some 0 then
    ((fX0_isIn x1.toInt64 (lI 0) (3 : Int64)).bind fun v1 =>
    if v1 = 0 then
      (some (iI (-1), h))
    else
    (fX0_isIn x2.toInt64 (lI 0) (2 : Int64)).bind fun v3 =>
    if v3 = 0 then
      (some (iI (-1), h))
    else
    if x3 ≤ (iI 40) then
      ((gR h a0 0 21).bind fun r6 =>
      (aQ 8 h r6 x1).bind fun v7 =>
      orL (fX0_newRow h x2 x3) (fun xo8 =>
        if xo8.1 = 4 then
          (some (iI (-14), xo8.2.2))
        else
        none) fun o8 =>
      (pF o8.2 v7 3 0 (.ref o8.1)).bind fun h9 =>
      (gR h9 a0 0 21).bind fun r10 =>
      (aQ 8 h9 r10 x1).bind fun v11 =>
      (pF h9 v11 3 1 (.int x3)).bind fun h12 =>
      some (iI 1, h12))
    else
    some (iI (-1), h))
  else none
def fX0_lay (h : Hp) (a0 : Nat) (x1 : Int32) (x2 : Int32) (x3 : Int32) : Option (Int32 × Hp) :=
  if ep_cls h a0 = some 0 then
    ((fX0_isIn x1.toInt64 (lI 0) (3 : Int64)).bind fun v1 =>
    if v1 = 0 then
      (some (iI (-1), h))
    else
    (gR h a0 0 21).bind fun r3 =>
    (aQ 8 h r3 x1).bind fun v4 =>
    (gQ h v4 3 0).bind fun q5 =>
    nsp q5
      (if (0 : Int32) = 0 then
        (if (0 : Int32) = 0 then
          (some (iI (-11), (thH 1 h)))
        else
        some (iI (-11), (thH 1 h)))
      else
      some (iI (-11), (thH 1 h))) fun r6 =>
    (tg3 h r6).bind fun t9 =>
    if (if t9 = 1 then iI 1 else iI 0) = 0 then
      ((tg3 h r6).bind fun t11 =>
      if (if t11 = 2 then iI 1 else iI 0) = 0 then
        ((ckT 0 h r6).bind fun u13 =>
        (aB 0 h r6 x2).bind fun b14 =>
        if b14 = true then
          ((aS 0 h r6 x2 x3).bind fun h16 =>
          some (iI 1, h16))
        else
        some (iI (-12), (thH 3 h)))
      else
      (ckT 2 h r6).bind fun u17 =>
      (aB 2 h r6 x2).bind fun b18 =>
      if b18 = true then
        ((aS 2 h r6 x2 x3.toInt16.toInt32.toInt16.toInt32).bind fun h20 =>
        some (iI 1, h20))
      else
      some (iI (-12), (thH 3 h)))
    else
    (ckT 1 h r6).bind fun u21 =>
    (aB 1 h r6 x2).bind fun b22 =>
    if b22 = true then
      ((aS 1 h r6 x2 x3.toInt8.toInt32.toInt8.toInt32).bind fun h24 =>
      some (iI 1, h24))
    else
    some (iI (-12), (thH 3 h)))
  else none
def fX0_cell (h : Hp) (a0 : Nat) (x1 : Int32) (x2 : Int32) : Option (Thr ⊕ (Int32 × Hp)) :=
  if x1 = 0 then
    ((tg3 h a0).bind fun t13 =>
    if t13 = 1 then
      ((aB 1 h a0 x2).bind fun b15 =>
      if b15 = true then
        ((aI 1 h a0 x2).bind fun v17 =>
        some (.inr (v17, h)))
      else
      some (.inl (2, h.1 + 2, thH 3 h)))
    else
    some (.inl (3, h.1 + 2, thH 3 h)))
  else
  if x1 = (iI 1) then
    ((tg3 h a0).bind fun t8 =>
    if t8 = 2 then
      ((aB 2 h a0 x2).bind fun b10 =>
      if b10 = true then
        ((aI 2 h a0 x2).bind fun v12 =>
        some (.inr (v12, h)))
      else
      some (.inl (2, h.1 + 2, thH 3 h)))
    else
    some (.inl (3, h.1 + 2, thH 3 h)))
  else
  (tg3 h a0).bind fun t3 =>
  if t3 = 0 then
    ((aB 0 h a0 x2).bind fun b5 =>
    if b5 = true then
      ((aI 0 h a0 x2).bind fun v7 =>
      some (.inr (v7, h)))
    else
    some (.inl (2, h.1 + 2, thH 3 h)))
  else
  some (.inl (3, h.1 + 2, thH 3 h))
def fX0_takesIn_L10 (a0 : Nat) (a1 : Nat) (x2 : Int32) (x3 : Int32) (x4 : Int32) : Nat → Hp → Option ((Int32 × Hp) ⊕ (Hp))
  | 0, _ => none
  | fu + 1, h =>
    (gI h a0 0 23).bind fun v4 =>
    if x4 ≤ v4 then
      (some (.inr h))
    else
    (gI h a0 0 24).bind fun v6 =>
    if v6 = 0 then
      ((gI h a0 0 23).bind fun v8 =>
      orL (fX0_cell h a1 x2 (x3 + ((iI 2) * v8))) (fun xo9 =>
        if xo9.1 = 1 then
          (some (.inl (iI 1, xo9.2.2)))
        else
        if xo9.1 = 3 then
          (some (.inl (iI 3, xo9.2.2)))
        else
        if xo9.1 = 2 then
          (some (.inl (iI 2, xo9.2.2)))
        else
        none) fun o9 =>
      orL (fX0_cell o9.2 a1 x2 ((x3 + ((iI 2) * v8)) + (iI 1))) (fun xo10 =>
        if xo10.1 = 1 then
          (some (.inl (iI 1, xo10.2.2)))
        else
        if xo10.1 = 3 then
          (some (.inl (iI 3, xo10.2.2)))
        else
        if xo10.1 = 2 then
          (some (.inl (iI 2, xo10.2.2)))
        else
        none) fun o10 =>
      (fX0_drives o10.2 a0 o9.1 o10.1).bind fun o11 =>
      (
        if 0 ≤ o11.1 then
          (some (iI 0))
        else
        (gI o11.2 a0 0 23).bind fun v14 =>
        some ((iI (-20)) - v14)).bind fun o12 =>
      (pF o11.2 a0 0 24 (.int o12)).bind fun h15 =>
      (gI h15 a0 0 23).bind fun v16 =>
      (gI h15 a0 0 24).bind fun v17 =>
      (pF h15 a0 0 23 (.int (v16 + (if v17 = 0 then iI 1 else iI 0)))).bind fun h20 =>
      fX0_takesIn_L10 a0 a1 x2 x3 x4 fu h20)
    else
    some (.inr h)
def fX0_takesIn (h : Hp) (a0 : Nat) (a1 : Nat) (x2 : Int32) (x3 : Int32) (x4 : Int32) : Option (Int32 × Hp) :=
  if ep_cls h a0 = some 0 then
    ((pF h a0 0 23 (.int (iI 0))).bind fun h1 =>
    (pF h1 a0 0 24 (.int (iI 0))).bind fun h2 =>
    orL (fX0_takesIn_L10 a0 a1 x2 x3 x4 FUEL h2) (fun r => some r) fun o3 =>
    some (iI 0, o3))
  else none
def fX0_cellN (h : Hp) (x1 : Int32) (x2 : Int32) : Option (Thr ⊕ (Int32 × Hp)) :=
  if x1 = 0 then
    (some (.inl (1, h.1 + 0, thH 1 h)))
  else
  if x1 = (iI 1) then
    (some (.inl (1, h.1 + 0, thH 1 h)))
  else
  some (.inl (1, h.1 + 0, thH 1 h))
def fX0_takesInN_L10 (a0 : Nat) (x2 : Int32) (x3 : Int32) (x4 : Int32) : Nat → Hp → Option ((Int32 × Hp) ⊕ (Hp))
  | 0, _ => none
  | fu + 1, h =>
    (gI h a0 0 23).bind fun v4 =>
    if x4 ≤ v4 then
      (some (.inr h))
    else
    (gI h a0 0 24).bind fun v6 =>
    if v6 = 0 then
      ((gI h a0 0 23).bind fun v8 =>
      orL (fX0_cellN h x2 (x3 + ((iI 2) * v8))) (fun xo9 =>
        if xo9.1 = 1 then
          (some (.inl (iI 1, xo9.2.2)))
        else
        if xo9.1 = 3 then
          (some (.inl (iI 3, xo9.2.2)))
        else
        if xo9.1 = 2 then
          (some (.inl (iI 2, xo9.2.2)))
        else
        none) fun o9 =>
      orL (fX0_cellN o9.2 x2 ((x3 + ((iI 2) * v8)) + (iI 1))) (fun xo10 =>
        if xo10.1 = 1 then
          (some (.inl (iI 1, xo10.2.2)))
        else
        if xo10.1 = 3 then
          (some (.inl (iI 3, xo10.2.2)))
        else
        if xo10.1 = 2 then
          (some (.inl (iI 2, xo10.2.2)))
        else
        none) fun o10 =>
      (fX0_drives o10.2 a0 o9.1 o10.1).bind fun o11 =>
      (
        if 0 ≤ o11.1 then
          (some (iI 0))
        else
        (gI o11.2 a0 0 23).bind fun v14 =>
        some ((iI (-20)) - v14)).bind fun o12 =>
      (pF o11.2 a0 0 24 (.int o12)).bind fun h15 =>
      (gI h15 a0 0 23).bind fun v16 =>
      (gI h15 a0 0 24).bind fun v17 =>
      (pF h15 a0 0 23 (.int (v16 + (if v17 = 0 then iI 1 else iI 0)))).bind fun h20 =>
      fX0_takesInN_L10 a0 x2 x3 x4 fu h20)
    else
    some (.inr h)
def fX0_takesInN (h : Hp) (a0 : Nat) (x2 : Int32) (x3 : Int32) (x4 : Int32) : Option (Int32 × Hp) :=
  if ep_cls h a0 = some 0 then
    ((pF h a0 0 23 (.int (iI 0))).bind fun h1 =>
    (pF h1 a0 0 24 (.int (iI 0))).bind fun h2 =>
    orL (fX0_takesInN_L10 a0 x2 x3 x4 FUEL h2) (fun r => some r) fun o3 =>
    some (iI 0, o3))
  else none
def fX0_read (h : Hp) (a0 : Nat) (x1 : Int32) (x2 : Int32) (x3 : Int32) (x4 : Int32) : Option (Int32 × Hp) :=
  if ep_cls h a0 = some 0 then
    ((fX0_isIn x1.toInt64 (lI 0) (3 : Int64)).bind fun v1 =>
    if v1 = 0 then
      (some (iI (-1), h))
    else
    (fX0_isIn x2.toInt64 (lI 0) (2 : Int64)).bind fun v3 =>
    if v3 = 0 then
      (some (iI (-1), h))
    else
    (fX0_isIn x4.toInt64 (lI 0) (20 : Int64)).bind fun v5 =>
    if v5 = 0 then
      (some (iI (-1), h))
    else
    (gR h a0 0 20).bind fun r7 =>
    (gR h a0 0 3).bind fun r8 =>
    (fX1_takes h r7 r8).bind fun o9 =>
    (gR o9 a0 0 21).bind fun r10 =>
    (aQ 8 o9 r10 x1).bind fun v11 =>
    (gQ o9 v11 3 0).bind fun q12 =>
    nsp q12
      ((fX0_takesInN o9 a0 x2 x3 x4).bind fun o14 =>
      (gI o14.2 a0 0 24).bind fun v15 =>
      if v15 = 0 then
        ((pF o14.2 a0 0 22 (.int o14.1)).bind fun h17 =>
        (gI h17 a0 0 23).bind fun v18 =>
        some (v18, h17))
      else
      (gR o14.2 a0 0 3).bind fun r19 =>
      (gR o14.2 a0 0 20).bind fun r20 =>
      (fX1_takes o14.2 r19 r20).bind fun o21 =>
      (gI o21 a0 0 24).bind fun v22 =>
      some (v22, o21)) fun r13 =>
    (fX0_takesIn o9 a0 r13 x2 x3 x4).bind fun o23 =>
    (gI o23.2 a0 0 24).bind fun v24 =>
    if v24 = 0 then
      ((pF o23.2 a0 0 22 (.int o23.1)).bind fun h26 =>
      (gI h26 a0 0 23).bind fun v27 =>
      some (v27, h26))
    else
    (gR o23.2 a0 0 3).bind fun r28 =>
    (gR o23.2 a0 0 20).bind fun r29 =>
    (fX1_takes o23.2 r28 r29).bind fun o30 =>
    (gI o30 a0 0 24).bind fun v31 =>
    some (v31, o30))
  else none
def fX0_torn (h : Hp) (a0 : Nat) : Option (Int32) :=
  if ep_cls h a0 = some 0 then
    ((gI h a0 0 22).bind fun v1 =>
    some v1)
  else none
def fX0_count (h : Hp) (a0 : Nat) (x1 : Int32) : Option (Int32) :=
  if ep_cls h a0 = some 0 then
    (if x1 = iI 0 then
      ((gR h a0 0 3).bind fun r7 =>
      (fX0_sum h r7 (iI 0)).bind fun v8 =>
      some v8)
    else
    if x1 = iI 1 then
      ((gR h a0 0 3).bind fun r9 =>
      (fX0_sum h r9 (iI 1)).bind fun v10 =>
      some v10)
    else
    if x1 = iI 2 then
      ((gI h a0 0 18).bind fun v11 =>
      some v11)
    else
    if x1 = iI 3 then
      ((gR h a0 0 19).bind fun r12 =>
      (aQ 7 h r12 (iI 0)).bind fun v13 =>
      (gI h v13 2 3).bind fun v14 =>
      (gR h a0 0 19).bind fun r17 =>
      (aQ 7 h r17 (iI 1)).bind fun v18 =>
      (gI h v18 2 3).bind fun v19 =>
      if v19 = 0 then
        (some ((if v14 = 0 then iI 0 else iI 1) + (iI 0)))
      else
      some ((if v14 = 0 then iI 0 else iI 1) + (iI 1)))
    else
    if x1 = iI 4 then
      ((gI h a0 0 1).bind fun v21 =>
      some v21)
    else
    if x1 = iI 5 then
      ((gR h a0 0 21).bind fun r22 =>
      (aQ 8 h r22 (iI 0)).bind fun v23 =>
      (gQ h v23 3 0).bind fun q24 =>
      nsp q24
        (some (iI (-4))) fun r25 =>
      (gR h a0 0 21).bind fun r26 =>
      (aQ 8 h r26 (iI 0)).bind fun v27 =>
      (gI h v27 3 1).bind fun v28 =>
      some v28)
    else
    some (iI (-1)))
  else none
def fX4_firstDraft_L2 (a0 : Nat) : Nat → Hp → Int32 → Option (Hp)
  | 0, _, _ => none
  | fu + 1, h, x1 =>
    if (iI 75) ≤ x1 then
      (some h)
    else
    (gR h a0 4 7).bind fun r3 =>
    (aS 0 h r3 x1 (iI 0)).bind fun h4 =>
    fX4_firstDraft_L2 a0 fu h4 (x1 + iI 1)
def fX4_firstDraft (h : Hp) (a0 : Nat) : Option (Hp) :=
  if ep_cls h a0 = some 4 then
    ((fX4_firstDraft_L2 a0 FUEL h (iI 0)).bind fun o1 =>
    (pF o1 a0 4 8 (.int (iI 0))).bind fun h5 =>
    (pF h5 a0 4 9 (.int (iI 0))).bind fun h6 =>
    (pF h6 a0 4 10 (.int (iI 0))).bind fun h7 =>
    (pF h7 a0 4 12 (.int (iI (-4)))).bind fun h8 =>
    some h8)
  else none
def fX4_keepDraft_L2 (a0 : Nat) : Nat → Hp → Int32 → Option (Hp)
  | 0, _, _ => none
  | fu + 1, h, x1 =>
    if (iI 75) ≤ x1 then
      (some h)
    else
    (gR h a0 4 0).bind fun r3 =>
    (gR h a0 4 7).bind fun r4 =>
    (aI 0 h r4 x1).bind fun v5 =>
    (aS 0 h r3 x1 v5).bind fun h6 =>
    fX4_keepDraft_L2 a0 fu h6 (x1 + iI 1)
def fX4_keepDraft_L52 (a0 : Nat) : Nat → Hp → Int32 → Option (Hp)
  | 0, _, _ => none
  | fu + 1, h, x1 =>
    (gI h a0 4 5).bind fun v14 =>
    if ((iI 8) * v14) ≤ x1 then
      (some h)
    else
    (gR h a0 4 6).bind fun r16 =>
    (gR h a0 4 11).bind fun r17 =>
    (aI 0 h r17 x1).bind fun v18 =>
    (aS 0 h r16 x1 v18).bind fun h19 =>
    fX4_keepDraft_L52 a0 fu h19 (x1 + iI 1)
def fX4_keepDraft (h : Hp) (a0 : Nat) : Option (Hp) :=
  if ep_cls h a0 = some 4 then
    ((fX4_keepDraft_L2 a0 FUEL h (iI 0)).bind fun o1 =>
    (gI o1 a0 4 8).bind fun v7 =>
    (pF o1 a0 4 3 (.int v7)).bind fun h8 =>
    (gI h8 a0 4 9).bind fun v9 =>
    (pF h8 a0 4 4 (.int v9)).bind fun h10 =>
    (gI h10 a0 4 10).bind fun v11 =>
    (pF h10 a0 4 5 (.int v11)).bind fun h12 =>
    (fX4_keepDraft_L52 a0 FUEL h12 (iI 0)).bind fun o13 =>
    (gR o13 a0 4 2).bind fun r20 =>
    (aS 3 o13 r20 (iI 0) (iI 0)).bind fun h21 =>
    (gR h21 a0 4 2).bind fun r22 =>
    (aS 3 h21 r22 (iI 1) (iI 0)).bind fun h23 =>
    some h23)
  else none
def fX4_init_L110 (a0 : Nat) : Nat → Hp → Int32 → Option (Hp)
  | 0, _, _ => none
  | fu + 1, h, x1 =>
    if (iI 4) ≤ x1 then
      (some h)
    else
    (gR h a0 4 27).bind fun r29 =>
    (aS 0 h r29 x1 (iI (-4))).bind fun h30 =>
    fX4_init_L110 a0 fu h30 (x1 + iI 1)
def fX4_init (h : Hp) (a0 : Nat) : Option (Hp) :=
  if ep_cls h a0 = some 4 then
    ((nwI 0 225 (iI 225) h).bind fun h1 =>
    (pF h1 a0 4 0 (.ref h.1)).bind fun h2 =>
    (nwI 0 75 (iI 75) h2).bind fun h3 =>
    (pF h3 a0 4 1 (.ref h2.1)).bind fun h4 =>
    (nwI 3 2 (iI 2) h4).bind fun h5 =>
    (pF h5 a0 4 2 (.ref h4.1)).bind fun h6 =>
    (nwI 0 32 (iI 32) h6).bind fun h7 =>
    (pF h7 a0 4 6 (.ref h6.1)).bind fun h8 =>
    (nwI 0 75 (iI 75) h8).bind fun h9 =>
    (pF h9 a0 4 7 (.ref h8.1)).bind fun h10 =>
    (nwI 0 32 (iI 32) h10).bind fun h11 =>
    (pF h11 a0 4 11 (.ref h10.1)).bind fun h12 =>
    (nwI 0 160 (iI 160) h12).bind fun h13 =>
    (pF h13 a0 4 13 (.ref h12.1)).bind fun h14 =>
    (nwI 0 4 (iI 4) h14).bind fun h15 =>
    (pF h15 a0 4 21 (.ref h14.1)).bind fun h16 =>
    (nwI 0 186 (iI 186) h16).bind fun h17 =>
    (pF h17 a0 4 26 (.ref h16.1)).bind fun h18 =>
    (nwI 0 4 (iI 4) h18).bind fun h19 =>
    (pF h19 a0 4 27 (.ref h18.1)).bind fun h20 =>
    (nwI 0 4 (iI 4) h20).bind fun h21 =>
    (pF h21 a0 4 28 (.ref h20.1)).bind fun h22 =>
    (nwI 0 160 (iI 160) h22).bind fun h23 =>
    (pF h23 a0 4 29 (.ref h22.1)).bind fun h24 =>
    (nwI 0 75 (iI 75) h24).bind fun h25 =>
    (pF h25 a0 4 31 (.ref h24.1)).bind fun h26 =>
    (fX4_init_L110 a0 FUEL h26 (iI 0)).bind fun o27 =>
    (fX4_firstDraft o27 a0).bind fun o31 =>
    (fX4_keepDraft o31 a0).bind fun o32 =>
    some o32)
  else none
def fX4_in (x0 : Int64) (x2 : Int64) (x4 : Int64) : Option (Int32) :=
  if (lg_cmp x0 x2) < 0 then
    (some (iI 0))
  else
  if 0 < (lg_cmp x0 x4) then
    (some (iI 0))
  else
  some (iI 1)
def fX4_feed (h : Hp) (a0 : Nat) (x1 : Int32) : Option (Int32 × Hp) :=
  if ep_cls h a0 = some 4 then
    ((fX4_in x1.toInt64 (lI 0) (127 : Int64)).bind fun v1 =>
    if v1 = 0 then
      (some (iI (-1), h))
    else
    (gI h a0 4 14).bind fun v3 =>
    if v3 = (iI 160) then
      (some (iI (-3), h))
    else
    (gR h a0 4 13).bind fun r5 =>
    (gI h a0 4 14).bind fun v6 =>
    (aS 0 h r5 v6 x1).bind fun h7 =>
    (gI h7 a0 4 14).bind fun v8 =>
    (pF h7 a0 4 14 (.int (v8 + (iI 1)))).bind fun h9 =>
    (gI h9 a0 4 14).bind fun v10 =>
    some (v10, h9))
  else none
def fX4_end (h : Hp) (a0 : Nat) (x1 : Int32) : Option (Int32 × Hp) :=
  if ep_cls h a0 = some 4 then
    ((gI h a0 4 14).bind fun v1 =>
    (fX4_in x1.toInt64 (lI 0) v1.toInt64).bind fun v2 =>
    if v2 = 0 then
      (some (iI (-1), h))
    else
    (gI h a0 4 14).bind fun v4 =>
    (pF h a0 4 14 (.int x1)).bind fun h5 =>
    some (v4, h5))
  else none
def fX4_byteAt (h : Hp) (a0 : Nat) (x1 : Int32) : Option (Int32) :=
  if ep_cls h a0 = some 4 then
    ((gI h a0 4 14).bind fun v1 =>
    if v1 ≤ x1 then
      (some (iI (-1)))
    else
    (gR h a0 4 13).bind fun r3 =>
    (aI 0 h r3 x1).bind fun v4 =>
    some v4)
  else none
def fX4_needs (h : Hp) (a0 : Nat) (x1 : Int32) (x2 : Int32) : Option (Hp) :=
  if ep_cls h a0 = some 4 then
    (if x1 = 0 then
      ((gI h a0 4 19).bind fun v2 =>
      if v2 = 0 then
        ((pF h a0 4 19 (.int x2)).bind fun h4 =>
        (gI h4 a0 4 16).bind fun v5 =>
        (pF h4 a0 4 20 (.int v5)).bind fun h6 =>
        some h6)
      else
      some h)
    else
    some h)
  else none
def fX4_next_L8 (a0 : Nat) : Nat → Hp → Option (Hp)
  | 0, _ => none
  | fu + 1, h =>
    (gI h a0 4 15).bind fun v4 =>
    (fX4_byteAt h a0 v4).bind fun v5 =>
    if v5 = (iI 32) then
      ((gI h a0 4 15).bind fun v7 =>
      (pF h a0 4 15 (.int (v7 + (iI 1)))).bind fun h8 =>
      fX4_next_L8 a0 fu h8)
    else
    some h
def fX4_next_L140 (a0 : Nat) : Nat → Hp → Option (Hp)
  | 0, _ => none
  | fu + 1, h =>
    (gI h a0 4 15).bind fun v27 =>
    (fX4_byteAt h a0 v27).bind fun v28 =>
    (fX4_in v28.toInt64 (48 : Int64) (57 : Int64)).bind fun v29 =>
    if v29 = 0 then
      (some h)
    else
    (gI h a0 4 15).bind fun v31 =>
    (gI h a0 4 16).bind fun v32 =>
    (
      if (iI 2) ≤ (v31 - v32) then
        ((gI h a0 4 18).bind fun v35 =>
        some v35)
      else
      (gI h a0 4 18).bind fun v36 =>
      (gI h a0 4 15).bind fun v37 =>
      (fX4_byteAt h a0 v37).bind fun v38 =>
      some ((((iI 10) * v36) + v38) - (iI 48))).bind fun o33 =>
    (pF h a0 4 18 (.int o33)).bind fun h39 =>
    (gI h39 a0 4 15).bind fun v40 =>
    (pF h39 a0 4 15 (.int (v40 + (iI 1)))).bind fun h41 =>
    fX4_next_L140 a0 fu h41
def fX4_next_L82 (a0 : Nat) : Nat → Hp → Option (Hp)
  | 0, _ => none
  | fu + 1, h =>
    (gI h a0 4 15).bind fun v49 =>
    (fX4_byteAt h a0 v49).bind fun v50 =>
    (fX4_in v50.toInt64 (97 : Int64) (122 : Int64)).bind fun v51 =>
    if v51 = 0 then
      (some h)
    else
    (gI h a0 4 15).bind fun v53 =>
    (pF h a0 4 15 (.int (v53 + (iI 1)))).bind fun h54 =>
    fX4_next_L82 a0 fu h54
def fX4_next (h : Hp) (a0 : Nat) : Option (Hp) :=
  if ep_cls h a0 = some 4 then
    ((gI h a0 4 19).bind fun v1 =>
    if v1 ≤ 0 then
      ((fX4_next_L8 a0 FUEL h).bind fun o3 =>
      (gI o3 a0 4 15).bind fun v9 =>
      (pF o3 a0 4 16 (.int v9)).bind fun h10 =>
      (gI h10 a0 4 15).bind fun v11 =>
      (fX4_byteAt h10 a0 v11).bind fun v12 =>
      if 0 ≤ v12 then
        ((fX4_in v12.toInt64 (97 : Int64) (122 : Int64)).bind fun v14 =>
        if v14 = 0 then
          ((fX4_in v12.toInt64 (48 : Int64) (57 : Int64)).bind fun v16 =>
          if v16 = 0 then
            ((pF h10 a0 4 17 (.int (iI 3))).bind fun h18 =>
            (fX4_needs h18 a0 (if v12 = (iI 59) then iI 1 else iI 0) (iI 1)).bind fun o21 =>
            (gI o21 a0 4 15).bind fun v22 =>
            (pF o21 a0 4 15 (.int (v22 + (iI 1)))).bind fun h23 =>
            some h23)
          else
          (pF h10 a0 4 17 (.int (iI 2))).bind fun h24 =>
          (pF h24 a0 4 18 (.int (iI 0))).bind fun h25 =>
          (fX4_next_L140 a0 FUEL h25).bind fun o26 =>
          (gI o26 a0 4 15).bind fun v42 =>
          (gI o26 a0 4 16).bind fun v43 =>
          (fX4_needs o26 a0 (if (iI 2) < (v42 - v43) then iI 0 else iI 1) (iI 1)).bind fun o46 =>
          some o46)
        else
        (pF h10 a0 4 17 (.int (iI 1))).bind fun h47 =>
        (fX4_next_L82 a0 FUEL h47).bind fun o48 =>
        some o48)
      else
      (pF h10 a0 4 17 (.int (iI 0))).bind fun h55 =>
      some h55)
    else
    some h)
  else none
def fX4_is (h : Hp) (a0 : Nat) (x1 : Int32) (x2 : Int32) (x3 : Int32) (x4 : Int32) : Option (Int32) :=
  if ep_cls h a0 = some 4 then
    ((gI h a0 4 15).bind fun v1 =>
    (gI h a0 4 16).bind fun v2 =>
    if (v1 - v2) = x1 then
      ((gI h a0 4 16).bind fun v4 =>
      (fX4_byteAt h a0 v4).bind fun v5 =>
      if v5 = x2 then
        ((gI h a0 4 16).bind fun v7 =>
        (fX4_byteAt h a0 (v7 + (iI 1))).bind fun v8 =>
        if v8 = x3 then
          ((gI h a0 4 16).bind fun v10 =>
          (fX4_byteAt h a0 (v10 + (iI 2))).bind fun v11 =>
          if v11 = x4 then
            (some (iI 1))
          else
          some (iI 0))
        else
        some (iI 0))
      else
      some (iI 0))
    else
    some (iI 0))
  else none
def fX4_ends (h : Hp) (a0 : Nat) (x1 : Int32) (x2 : Int32) : Option (Int32) :=
  if ep_cls h a0 = some 4 then
    ((gI h a0 4 16).bind fun v1 =>
    (fX4_byteAt h a0 (v1 + (iI 3))).bind fun v2 =>
    if v2 = x1 then
      (if x2 = 0 then
        (some (iI 1))
      else
      (gI h a0 4 16).bind fun v5 =>
      (fX4_byteAt h a0 (v5 + (iI 4))).bind fun v6 =>
      if v6 = x2 then
        (some (iI 1))
      else
      some (iI 0))
    else
    some (iI 0))
  else none
def fX4_lineNow (h : Hp) (a0 : Nat) : Option (Int32) :=
  if ep_cls h a0 = some 4 then
    ((fX4_is h a0 (iI 5) (iI 112) (iI 108) (iI 97)).bind fun v1 =>
    orL (
      if v1 = 0 then
        (some (.inr ()))
      else
      (fX4_ends h a0 (iI 105) (iI 110)).bind fun v4 =>
      if v4 = 0 then
        (some (.inr ()))
      else
      some (.inl (iI 0))) (fun r => some r) fun o2 =>
    (fX4_is h a0 (iI 4) (iI 116) (iI 119) (iI 105)).bind fun v6 =>
    orL (
      if v6 = 0 then
        (some (.inr ()))
      else
      (fX4_ends h a0 (iI 110) (iI 0)).bind fun v9 =>
      if v9 = 0 then
        (some (.inr ()))
      else
      some (.inl (iI 1))) (fun r => some r) fun o7 =>
    (fX4_is h a0 (iI 4) (iI 114) (iI 117) (iI 110)).bind fun v11 =>
    orL (
      if v11 = 0 then
        (some (.inr ()))
      else
      (fX4_ends h a0 (iI 116) (iI 0)).bind fun v14 =>
      if v14 = 0 then
        (some (.inr ()))
      else
      some (.inl (iI 2))) (fun r => some r) fun o12 =>
    (fX4_is h a0 (iI 4) (iI 119) (iI 105) (iI 108)).bind fun v16 =>
    orL (
      if v16 = 0 then
        (some (.inr ()))
      else
      (fX4_ends h a0 (iI 100) (iI 0)).bind fun v19 =>
      if v19 = 0 then
        (some (.inr ()))
      else
      some (.inl (iI 3))) (fun r => some r) fun o17 =>
    (fX4_is h a0 (iI 3) (iI 112) (iI 101) (iI 110)).bind fun v21 =>
    if v21 = 0 then
      ((fX4_is h a0 (iI 5) (iI 111) (iI 114) (iI 100)).bind fun v23 =>
      if v23 = 0 then
        (some (iI (-4)))
      else
      (fX4_ends h a0 (iI 101) (iI 114)).bind fun v25 =>
      if v25 = 0 then
        (some (iI (-4)))
      else
      some (iI 5))
    else
    some (iI 4))
  else none
def fX4_vowelOf (x0 : Int32) : Option (Int32) :=
  if x0 = (iI 97) then
    (some (iI 0))
  else
  if x0 = (iI 101) then
    (some (iI 1))
  else
  if x0 = (iI 105) then
    (some (iI 2))
  else
  if x0 = (iI 111) then
    (some (iI 3))
  else
  if x0 = (iI 117) then
    (some (iI 4))
  else
  some (iI (-4))
def fX4_readVowel (h : Hp) (a0 : Nat) : Option (Int32 × Hp) :=
  if ep_cls h a0 = some 4 then
    ((gI h a0 4 19).bind fun v1 =>
    (
      if v1 = 0 then
        ((gI h a0 4 17).bind fun v4 =>
        (fX4_needs h a0 (if v4 = (iI 1) then iI 1 else iI 0) (iI 2)).bind fun o7 =>
        some o7)
      else
      some h).bind fun o2 =>
    (gI o2 a0 4 15).bind fun v8 =>
    (gI o2 a0 4 16).bind fun v9 =>
    (
      if (v8 - v9) = (iI 1) then
        ((gI o2 a0 4 16).bind fun v12 =>
        (fX4_byteAt o2 a0 v12).bind fun v13 =>
        (fX4_vowelOf v13).bind fun v14 =>
        some v14)
      else
      some (iI (-4))).bind fun o10 =>
    (gI o2 a0 4 19).bind fun v15 =>
    (
      if v15 = 0 then
        ((fX4_needs o2 a0 (if o10 = (iI (-4)) then iI 0 else iI 1) (iI 3)).bind fun o20 =>
        some o20)
      else
      some o2).bind fun o16 =>
    (fX4_next o16 a0).bind fun o21 =>
    some (o10, o21))
  else none
def fX4_readNumber (h : Hp) (a0 : Nat) (x1 : Int32) (x2 : Int32) : Option (Int32 × Hp) :=
  if ep_cls h a0 = some 4 then
    ((gI h a0 4 19).bind fun v1 =>
    (
      if v1 = 0 then
        ((gI h a0 4 17).bind fun v4 =>
        (fX4_needs h a0 (if v4 = (iI 2) then iI 1 else iI 0) (iI 2)).bind fun o7 =>
        some o7)
      else
      some h).bind fun o2 =>
    (gI o2 a0 4 19).bind fun v8 =>
    (
      if v8 = 0 then
        ((gI o2 a0 4 18).bind fun v11 =>
        (fX4_in v11.toInt64 x1.toInt64 x2.toInt64).bind fun v12 =>
        (fX4_needs o2 a0 v12 (iI 3)).bind fun o13 =>
        some o13)
      else
      some o2).bind fun o9 =>
    (gI o9 a0 4 19).bind fun v14 =>
    (
      if v14 = 0 then
        ((gI o9 a0 4 18).bind fun v17 =>
        some v17)
      else
      some (iI 0)).bind fun o15 =>
    (fX4_next o9 a0).bind fun o18 =>
    some (o15, o18))
  else none
def fX4_readWord_L76 (a0 : Nat) (a1 : Nat) (x2 : Int32) : Nat → Hp → Int32 → Option (Hp)
  | 0, _, _ => none
  | fu + 1, h, x3 =>
    (gI h a0 4 15).bind fun v23 =>
    (gI h a0 4 16).bind fun v24 =>
    if (v23 - v24) ≤ x3 then
      (some h)
    else
    (gI h a0 4 16).bind fun v26 =>
    (fX4_byteAt h a0 (v26 + x3)).bind fun v27 =>
    (aS 0 h a1 ((x2 + (iI 1)) + x3) v27).bind fun h28 =>
    fX4_readWord_L76 a0 a1 x2 fu h28 (x3 + iI 1)
def fX4_readWord (h : Hp) (a0 : Nat) (a1 : Nat) (x2 : Int32) : Option (Hp) :=
  if ep_cls h a0 = some 4 then
    ((gI h a0 4 19).bind fun v1 =>
    (
      if v1 = 0 then
        ((gI h a0 4 17).bind fun v4 =>
        (fX4_needs h a0 (if v4 = (iI 1) then iI 1 else iI 0) (iI 2)).bind fun o7 =>
        some o7)
      else
      some h).bind fun o2 =>
    (gI o2 a0 4 19).bind fun v8 =>
    (
      if v8 = 0 then
        ((gI o2 a0 4 15).bind fun v11 =>
        (gI o2 a0 4 16).bind fun v12 =>
        (fX4_needs o2 a0 (if (iI 5) < (v11 - v12) then iI 0 else iI 1) (iI 3)).bind fun o15 =>
        some o15)
      else
      some o2).bind fun o9 =>
    (gI o9 a0 4 19).bind fun v16 =>
    (
      if v16 = 0 then
        ((gI o9 a0 4 15).bind fun v19 =>
        (gI o9 a0 4 16).bind fun v20 =>
        (aS 0 o9 a1 x2 (v19 - v20)).bind fun h21 =>
        (fX4_readWord_L76 a0 a1 x2 FUEL h21 (iI 0)).bind fun o22 =>
        some o22)
      else
      some o9).bind fun o17 =>
    (fX4_next o17 a0).bind fun o29 =>
    some o29)
  else none
def fX4_readLineOf (h : Hp) (a0 : Nat) (x1 : Int32) : Option (Hp) :=
  if ep_cls h a0 = some 4 then
    (if x1 = (iI 4) then
      ((gR h a0 4 7).bind fun r41 =>
      (gI h a0 4 8).bind fun v42 =>
      (fX4_readVowel h a0).bind fun o43 =>
      (aS 0 o43.2 r41 (((iI 2) * v42) + (iI 1)) o43.1).bind fun h44 =>
      (gR h44 a0 4 7).bind fun r45 =>
      (gI h44 a0 4 8).bind fun v46 =>
      (fX4_readNumber h44 a0 (iI 1) (iI 9)).bind fun o47 =>
      (aS 0 o47.2 r45 (((iI 2) * v46) + (iI 0)) o47.1).bind fun h48 =>
      (gI h48 a0 4 8).bind fun v49 =>
      (pF h48 a0 4 8 (.int (v49 + (iI 1)))).bind fun h50 =>
      some h50)
    else
    if x1 = (iI 5) then
      ((gI h a0 4 10).bind fun v30 =>
      (gR h a0 4 11).bind fun r31 =>
      (fX4_readWord h a0 r31 (((iI 8) * v30) + (iI 0))).bind fun o32 =>
      (gR o32 a0 4 11).bind fun r33 =>
      (fX4_readNumber o32 a0 (iI 1) (iI 9)).bind fun o34 =>
      (aS 0 o34.2 r33 (((iI 8) * v30) + (iI 6)) o34.1).bind fun h35 =>
      (gR h35 a0 4 11).bind fun r36 =>
      (fX4_readNumber h35 a0 (iI 0) (iI 9)).bind fun o37 =>
      (aS 0 o37.2 r36 (((iI 8) * v30) + (iI 7)) o37.1).bind fun h38 =>
      (gI h38 a0 4 10).bind fun v39 =>
      (pF h38 a0 4 10 (.int (v39 + (iI 1)))).bind fun h40 =>
      some h40)
    else
    (gI h a0 4 9).bind fun v3 =>
    (gR h a0 4 7).bind fun r4 =>
    (aS 0 h r4 (((iI 8) + ((iI 9) * v3)) + (iI 0)) x1).bind fun h5 =>
    (gR h5 a0 4 7).bind fun r6 =>
    (fX4_readWord h5 a0 r6 (((iI 8) + ((iI 9) * v3)) + (iI 3))).bind fun o7 =>
    (gR o7 a0 4 7).bind fun r8 =>
    (fX4_readNumber o7 a0 (iI 0) (iI 99)).bind fun o9 =>
    (aS 0 o9.2 r8 (((iI 8) + ((iI 9) * v3)) + (iI 1)) o9.1).bind fun h10 =>
    (gR h10 a0 4 7).bind fun r11 =>
    (fX4_readNumber h10 a0 (iI 0) (iI 3)).bind fun o12 =>
    (aS 0 o12.2 r11 (((iI 8) + ((iI 9) * v3)) + (iI 2)) o12.1).bind fun h13 =>
    (gI h13 a0 4 19).bind fun v14 =>
    orL (
      if v14 = 0 then
        ((gR h13 a0 4 7).bind fun r17 =>
        (aI 0 h13 r17 (((iI 8) + ((iI 9) * v3)) + (iI 2))).bind fun v18 =>
        (gI h13 a0 4 12).bind fun v19 =>
        if v18 ≤ v19 then
          (some (.inr ()))
        else
        (gR h13 a0 4 7).bind fun r21 =>
        (aI 0 h13 r21 (((iI 8) + ((iI 9) * v3)) + (iI 2))).bind fun v22 =>
        (pF h13 a0 4 12 (.int v22)).bind fun h23 =>
        (gI h23 a0 4 9).bind fun v24 =>
        (pF h23 a0 4 9 (.int (v24 + (iI 1)))).bind fun h25 =>
        some (.inl h25))
      else
      some (.inr ())) (fun r => some r) fun o15 =>
    (gI h13 a0 4 12).bind fun v26 =>
    (pF h13 a0 4 12 (.int v26)).bind fun h27 =>
    (gI h27 a0 4 9).bind fun v28 =>
    (pF h27 a0 4 9 (.int (v28 + (iI 1)))).bind fun h29 =>
    some h29)
  else none
def fX4_readLine (h : Hp) (a0 : Nat) : Option (Hp) :=
  if ep_cls h a0 = some 4 then
    ((gI h a0 4 17).bind fun v1 =>
    (
      if v1 = (iI 1) then
        ((fX4_lineNow h a0).bind fun v4 =>
        some v4)
      else
      some (iI (-4))).bind fun o2 =>
    (fX4_needs h a0 (if o2 = (iI (-4)) then iI 0 else iI 1) (iI 2)).bind fun o7 =>
    (
      if o2 = (iI 4) then
        ((gI o7 a0 4 8).bind fun v15 =>
        if (iI 4) ≤ v15 then
          (some (iI 0))
        else
        some (iI 1))
      else
      if o2 = (iI 5) then
        ((gI o7 a0 4 10).bind fun v13 =>
        if (iI 4) ≤ v13 then
          (some (iI 0))
        else
        some (iI 1))
      else
      (gI o7 a0 4 9).bind fun v11 =>
      if (iI 5) ≤ v11 then
        (some (iI 0))
      else
      some (iI 1)).bind fun o8 =>
    (fX4_needs o7 a0 o8 (iI 5)).bind fun o17 =>
    (fX4_next o17 a0).bind fun o18 =>
    (gI o18 a0 4 19).bind fun v19 =>
    if v19 ≤ 0 then
      ((fX4_readLineOf o18 a0 o2).bind fun o21 =>
      (gI o21 a0 4 19).bind fun v22 =>
      (
        if v22 = 0 then
          ((gI o21 a0 4 17).bind fun v25 =>
          (fX4_needs o21 a0 (if v25 = (iI 3) then iI 1 else iI 0) (iI 2)).bind fun o28 =>
          some o28)
        else
        some o21).bind fun o23 =>
      (fX4_next o23 a0).bind fun o29 =>
      some o29)
    else
    some o18)
  else none
def fX4_flag (x0 : Int32) : Option (Int32) :=
  if x0 = 0 then
    (some (iI 0))
  else
  some (iI 1)
def fX4_doFit_L14 (h : Hp) (a0 : Nat) (x1 : Int32) (x2 : Int32) : Nat → Int32 → Int32 → Option (Int32)
  | 0, _, _ => none
  | fu + 1, x3, x4 =>
    (gI h a0 4 9).bind fun v4 =>
    if v4 ≤ x4 then
      (some x3)
    else
    (gR h a0 4 7).bind fun r6 =>
    (aI 0 h r6 (((iI 8) + ((iI 9) * x4)) + (iI 2))).bind fun v7 =>
    (fX4_flag (if v7 = x2 then iI 1 else iI 0)).bind fun v10 =>
    fX4_doFit_L14 h a0 x1 x2 fu (x3 + v10) (x4 + iI 1)
def fX4_doFit_L4 (h : Hp) (a0 : Nat) : Nat → Int32 → Int32 → Option (Int32)
  | 0, _, _ => none
  | fu + 1, x1, x2 =>
    if (iI 4) ≤ x2 then
      (some x1)
    else
    (fX4_doFit_L14 h a0 x1 x2 FUEL (iI 0) (iI 0)).bind fun o3 =>
    fX4_doFit_L4 h a0 fu (if x1 = 0 then iI 0 else (if (iI 3) < o3 then iI 0 else iI 1)) (x2 + iI 1)
def fX4_doFit (h : Hp) (a0 : Nat) : Option (Int32) :=
  if ep_cls h a0 = some 4 then
    ((fX4_doFit_L4 h a0 FUEL (iI 1) (iI 0)).bind fun o1 =>
    (ckZ o1).bind fun z =>
    some z)
  else none
def fX4_text_L20 (a0 : Nat) : Nat → Hp → Int32 → Option (Hp × Int32)
  | 0, _, _ => none
  | fu + 1, h, x1 =>
    (gI h a0 4 19).bind fun v6 =>
    if v6 = 0 then
      ((gI h a0 4 17).bind fun v8 =>
      if v8 = 0 then
        (some (h, x1))
      else
      (fX4_readLine h a0).bind fun o10 =>
      fX4_text_L20 a0 fu o10 (x1 + iI 1))
    else
    some (h, x1)
def fX4_text (h : Hp) (a0 : Nat) : Option (Int32 × Hp) :=
  if ep_cls h a0 = some 4 then
    ((pF h a0 4 19 (.int (iI 0))).bind fun h1 =>
    (pF h1 a0 4 15 (.int (iI 0))).bind fun h2 =>
    (fX4_firstDraft h2 a0).bind fun o3 =>
    (fX4_next o3 a0).bind fun o4 =>
    (fX4_text_L20 a0 FUEL o4 (iI 0)).bind fun o5 =>
    (gI o5.1 a0 4 19).bind fun v11 =>
    (
      if v11 = 0 then
        ((gI o5.1 a0 4 12).bind fun v14 =>
        (gI o5.1 a0 4 8).bind fun v15 =>
        (fX4_needs o5.1 a0 (if v15 ≤ v14 then iI 0 else iI 1) (iI 6)).bind fun o18 =>
        (fX4_doFit o18 a0).bind fun v19 =>
        (fX4_needs o18 a0 v19 (iI 7)).bind fun o20 =>
        some o20)
      else
      some o5.1).bind fun o12 =>
    (pF o12 a0 4 14 (.int (iI 0))).bind fun h21 =>
    (gI h21 a0 4 19).bind fun v22 =>
    if v22 ≤ 0 then
      ((fX4_keepDraft h21 a0).bind fun o24 =>
      some (o5.2, o24))
    else
    (gI h21 a0 4 20).bind fun v25 =>
    some (((iI (-10)) - v25), h21))
  else none
def fX4_fault (h : Hp) (a0 : Nat) : Option (Int32) :=
  if ep_cls h a0 = some 4 then
    ((gI h a0 4 19).bind fun v1 =>
    some v1)
  else none
def fX4_starts_L2 (a0 : Nat) : Nat → Hp → Int32 → Option (Hp)
  | 0, _, _ => none
  | fu + 1, h, x1 =>
    if (iI 75) ≤ x1 then
      (some h)
    else
    (gR h a0 4 1).bind fun r3 =>
    (gR h a0 4 0).bind fun r4 =>
    (aI 0 h r4 x1).bind fun v5 =>
    (aS 0 h r3 x1 v5).bind fun h6 =>
    fX4_starts_L2 a0 fu h6 (x1 + iI 1)
def fX4_starts (h : Hp) (a0 : Nat) : Option (Hp) :=
  if ep_cls h a0 = some 4 then
    ((fX4_starts_L2 a0 FUEL h (iI 0)).bind fun o1 =>
    some o1)
  else none
def fX4_of (h : Hp) (a0 : Nat) (x1 : Int32) (x2 : Int32) : Option (Int32) :=
  if ep_cls h a0 = some 4 then
    ((gR h a0 4 1).bind fun r1 =>
    (aI 0 h r1 (((iI 8) + ((iI 9) * x1)) + x2)).bind fun v2 =>
    some v2)
  else none
def fX4_inPen_L4 (h : Hp) (a0 : Nat) (x1 : Int32) : Nat → Int32 → Int32 → Option (Int32)
  | 0, _, _ => none
  | fu + 1, x2, x3 =>
    (gI h a0 4 4).bind fun v2 =>
    if v2 ≤ x3 then
      (some x2)
    else
    (fX4_of h a0 x3 (iI 2)).bind fun v4 =>
    (fX4_flag (if v4 = x1 then iI 1 else iI 0)).bind fun v7 =>
    fX4_inPen_L4 h a0 x1 fu (x2 ||| (v7 <<< (x3 &&& 31))) (x3 + iI 1)
def fX4_inPen (h : Hp) (a0 : Nat) (x1 : Int32) : Option (Int32) :=
  if ep_cls h a0 = some 4 then
    ((fX4_inPen_L4 h a0 x1 FUEL (iI 0) (iI 0)).bind fun o1 =>
    some o1)
  else none
def fX4_isSilent (h : Hp) (a0 : Nat) (x1 : Int32) : Option (Int32) :=
  if ep_cls h a0 = some 4 then
    ((fX4_of h a0 x1 (iI 1)).bind fun v1 =>
    if v1 = 0 then
      (some (iI 1))
    else
    (fX4_of h a0 x1 (iI 3)).bind fun v3 =>
    if v3 = 0 then
      (some (iI 1))
    else
    some (iI 0))
  else none
def fX4_silentNow_L4 (h : Hp) (a0 : Nat) : Nat → Int32 → Int32 → Option (Int32)
  | 0, _, _ => none
  | fu + 1, x1, x2 =>
    (gI h a0 4 4).bind fun v2 =>
    if v2 ≤ x2 then
      (some x1)
    else
    (fX4_isSilent h a0 x2).bind fun v4 =>
    (fX4_flag v4).bind fun v5 =>
    fX4_silentNow_L4 h a0 fu (x1 ||| (v5 <<< (x2 &&& 31))) (x2 + iI 1)
def fX4_silentNow (h : Hp) (a0 : Nat) : Option (Int32) :=
  if ep_cls h a0 = some 4 then
    ((fX4_silentNow_L4 h a0 FUEL (iI 0) (iI 0)).bind fun o1 =>
    some o1)
  else none
def fX4_rule (h : Hp) (a0 : Nat) (x1 : Int32) : Option (Int32 × Hp) :=
  if ep_cls h a0 = some 4 then
    ((fX4_starts h a0).bind fun o1 =>
    if x1 = iI 0 then
      ((gI o1 a0 4 3).bind fun v10 =>
      some (v10, o1))
    else
    if x1 = iI 1 then
      ((gI o1 a0 4 4).bind fun v11 =>
      some (v11, o1))
    else
    if x1 = iI 2 then
      ((gI o1 a0 4 5).bind fun v12 =>
      some (v12, o1))
    else
    if x1 = iI 3 then
      ((gR o1 a0 4 0).bind fun r13 =>
      (aI 0 o1 r13 (iI 54)).bind fun v14 =>
      some (v14, o1))
    else
    if x1 = iI 4 then
      ((gR o1 a0 4 0).bind fun r15 =>
      (aI 0 o1 r15 (iI 55)).bind fun v16 =>
      some (v16, o1))
    else
    if x1 = iI 5 then
      ((fX4_inPen o1 a0 (iI (-4))).bind fun v17 =>
      some (v17, o1))
    else
    if x1 = iI 6 then
      ((fX4_silentNow o1 a0).bind fun v18 =>
      (fX4_inPen o1 a0 (iI (-4))).bind fun v19 =>
      some ((v18 &&& (v19 ^^^ (iI (-1)))), o1))
    else
    if x1 = iI 7 then
      ((gR o1 a0 4 0).bind fun r20 =>
      (aI 0 o1 r20 (iI 53)).bind fun v21 =>
      some (v21, o1))
    else
    some (iI (-1), o1))
  else none
def fX4_isPen (h : Hp) (a0 : Nat) (x1 : Int32) : Option (Int32) :=
  if ep_cls h a0 = some 4 then
    ((gI h a0 4 3).bind fun v1 =>
    (fX4_in x1.toInt64 (lI 0) ((v1 - (iI 1)).toInt64)).bind fun v2 =>
    (ckZ v2).bind fun z =>
    some z)
  else none
def fX4_pen (h : Hp) (a0 : Nat) (x1 : Int32) (x2 : Int32) : Option (Int32 × Hp) :=
  if ep_cls h a0 = some 4 then
    ((fX4_isPen h a0 x1).bind fun v1 =>
    if v1 = 0 then
      (some (iI (-1), h))
    else
    (fX4_in x2.toInt64 (lI 0) (2 : Int64)).bind fun v3 =>
    if v3 = 0 then
      (some (iI (-1), h))
    else
    (fX4_starts h a0).bind fun o5 =>
    if (iI 2) ≤ x2 then
      ((fX4_inPen o5 a0 x1).bind fun v7 =>
      some (v7, o5))
    else
    (gR o5 a0 4 1).bind fun r8 =>
    (aI 0 o5 r8 (((iI 2) * x1) + x2)).bind fun v9 =>
    some (v9, o5))
  else none
def fX4_isEcho (h : Hp) (a0 : Nat) (x1 : Int32) : Option (Int32) :=
  if ep_cls h a0 = some 4 then
    ((gI h a0 4 4).bind fun v1 =>
    (fX4_in x1.toInt64 (lI 0) ((v1 - (iI 1)).toInt64)).bind fun v2 =>
    (ckZ v2).bind fun z =>
    some z)
  else none
def fX4_isSold (h : Hp) (a0 : Nat) (x1 : Int32) : Option (Int32) :=
  if ep_cls h a0 = some 4 then
    ((fX4_of h a0 x1 (iI 2)).bind fun v1 =>
    if v1 = (iI (-4)) then
      (some (iI 1))
    else
    some (iI 0))
  else none
def fX4_distanceOf (h : Hp) (a0 : Nat) (x1 : Int32) : Option (Int32) :=
  if ep_cls h a0 = some 4 then
    ((gR h a0 4 1).bind fun r1 =>
    (fX4_of h a0 x1 (iI 2)).bind fun v2 =>
    (aI 0 h r1 (((iI 2) * v2) + (iI 0))).bind fun v3 =>
    some v3)
  else none
def fX4_returnsOf (h : Hp) (a0 : Nat) (x1 : Int32) : Option (Int32) :=
  if ep_cls h a0 = some 4 then
    ((fX4_isSold h a0 x1).bind fun v1 =>
    if v1 = 0 then
      ((fX4_isSilent h a0 x1).bind fun v3 =>
      if v3 = 0 then
        ((fX4_of h a0 x1 (iI 1)).bind fun v5 =>
        (fX4_distanceOf h a0 x1).bind fun v6 =>
        (dvI v5 v6).bind fun v7 =>
        (fX4_of h a0 x1 (iI 0)).bind fun v8 =>
        if v8 = (iI 1) then
          (some ((iI 2) * v7))
        else
        (fX4_of h a0 x1 (iI 0)).bind fun v10 =>
        if v10 = (iI 2) then
          (some (v7 + (iI 1)))
        else
        some v7)
      else
      some (iI 0))
    else
    some (iI 0))
  else none
def fX4_periodOf (h : Hp) (a0 : Nat) (x1 : Int32) : Option (Int32) :=
  if ep_cls h a0 = some 4 then
    ((fX4_isSold h a0 x1).bind fun v1 =>
    if v1 = 0 then
      ((fX4_distanceOf h a0 x1).bind fun v3 =>
      (fX4_of h a0 x1 (iI 3)).bind fun v4 =>
      some (v3 + v4))
    else
    some (iI 0))
  else none
def fX4_echo (h : Hp) (a0 : Nat) (x1 : Int32) (x2 : Int32) : Option (Int32 × Hp) :=
  if ep_cls h a0 = some 4 then
    ((fX4_isEcho h a0 x1).bind fun v1 =>
    if v1 = 0 then
      (some (iI (-1), h))
    else
    (fX4_starts h a0).bind fun o3 =>
    if x2 = iI 0 then
      ((fX4_of o3 a0 x1 x2).bind fun v10 =>
      some (v10, o3))
    else
    if x2 = iI 1 then
      ((fX4_of o3 a0 x1 x2).bind fun v11 =>
      some (v11, o3))
    else
    if x2 = iI 2 then
      ((fX4_of o3 a0 x1 x2).bind fun v12 =>
      some (v12, o3))
    else
    if x2 = iI 3 then
      ((fX4_returnsOf o3 a0 x1).bind fun v13 =>
      some (v13, o3))
    else
    if x2 = iI 4 then
      ((fX4_of o3 a0 x1 (iI 3)).bind fun v14 =>
      some (v14, o3))
    else
    if x2 = iI 5 then
      ((fX4_periodOf o3 a0 x1).bind fun v15 =>
      some (v15, o3))
    else
    some (iI (-1), o3))
  else none
def fX4_letter (h : Hp) (a0 : Nat) (x1 : Int32) (x2 : Int32) : Option (Int32 × Hp) :=
  if ep_cls h a0 = some 4 then
    ((fX4_isEcho h a0 x1).bind fun v1 =>
    if v1 = 0 then
      (some (iI (-1), h))
    else
    (fX4_starts h a0).bind fun o3 =>
    (fX4_of o3 a0 x1 (iI 3)).bind fun v4 =>
    (fX4_in x2.toInt64 (lI 0) ((v4 - (iI 1)).toInt64)).bind fun v5 =>
    if v5 = 0 then
      (some (iI (-1), o3))
    else
    (fX4_of o3 a0 x1 ((iI 4) + x2)).bind fun v7 =>
    some (v7, o3))
  else none
def fX4_isOrder (h : Hp) (a0 : Nat) (x1 : Int32) : Option (Int32) :=
  if ep_cls h a0 = some 4 then
    ((gI h a0 4 5).bind fun v1 =>
    (fX4_in x1.toInt64 (lI 0) ((v1 - (iI 1)).toInt64)).bind fun v2 =>
    (ckZ v2).bind fun z =>
    some z)
  else none
def fX4_order (h : Hp) (a0 : Nat) (x1 : Int32) (x2 : Int32) : Option (Int32) :=
  if ep_cls h a0 = some 4 then
    ((fX4_isOrder h a0 x1).bind fun v1 =>
    if v1 = 0 then
      (some (iI (-1)))
    else
    if x2 = iI 0 then
      ((gR h a0 4 6).bind fun r7 =>
      (aI 0 h r7 (((iI 8) * x1) + (iI 6))).bind fun v8 =>
      some v8)
    else
    if x2 = iI 1 then
      ((gR h a0 4 6).bind fun r9 =>
      (aI 0 h r9 (((iI 8) * x1) + (iI 7))).bind fun v10 =>
      some v10)
    else
    if x2 = iI 2 then
      ((gR h a0 4 6).bind fun r11 =>
      (aI 0 h r11 (((iI 8) * x1) + (iI 0))).bind fun v12 =>
      some v12)
    else
    if x2 = iI 3 then
      ((gR h a0 4 0).bind fun r13 =>
      (aI 0 h r13 (iI 53)).bind fun v14 =>
      some ((v14 >>> (x1 &&& 31)) &&& (iI 1)))
    else
    (gR h a0 4 6).bind fun r15 =>
    (aI 0 h r15 (((iI 8) * x1) + (iI 0))).bind fun v16 =>
    (fX4_in ((x2 - (iI 10)).toInt64) (lI 0) ((v16 - (iI 1)).toInt64)).bind fun v17 =>
    if v17 = 0 then
      (some (iI (-1)))
    else
    (gR h a0 4 6).bind fun r19 =>
    (aI 0 h r19 (((((iI 8) * x1) + (iI 1)) + x2) - (iI 10))).bind fun v20 =>
    some v20)
  else none
def fX4_bitsOf_L4 (x0 : Int32) : Nat → Int32 → Int32 → Option (Int32)
  | 0, _, _ => none
  | fu + 1, x1, x2 =>
    if (iI 5) ≤ x2 then
      (some x1)
    else
    fX4_bitsOf_L4 x0 fu (x1 + ((x0 >>> (x2 &&& 31)) &&& (iI 1))) (x2 + iI 1)
def fX4_bitsOf (x0 : Int32) : Option (Int32) :=
  (fX4_bitsOf_L4 x0 FUEL (iI 0) (iI 0)).bind fun o1 =>
  some o1
def fX4_becomes (h : Hp) (a0 : Nat) (x1 : Int32) (x2 : Int32) : Option (Int32 × Hp) :=
  if ep_cls h a0 = some 4 then
    ((gR h a0 4 0).bind fun r1 =>
    (aI 0 h r1 x1).bind fun v2 =>
    (gR h a0 4 0).bind fun r3 =>
    (aS 0 h r3 x1 x2).bind fun h4 =>
    some (v2, h4))
  else none
def fX4_drive (h : Hp) (a0 : Nat) (x1 : Int32) (x2 : Int32) : Option (Int32 × Hp) :=
  if ep_cls h a0 = some 4 then
    ((fX4_isEcho h a0 x1).bind fun v1 =>
    if v1 = 0 then
      (some (iI (-1), h))
    else
    (fX4_isPen h a0 x2).bind fun v3 =>
    if v3 = 0 then
      (some (iI (-1), h))
    else
    (fX4_starts h a0).bind fun o5 =>
    (fX4_of o5 a0 x1 (iI 2)).bind fun v6 =>
    if v6 = x2 then
      (some (iI (-2), o5))
    else
    (fX4_isSold o5 a0 x1).bind fun v8 =>
    if v8 = 0 then
      ((fX4_inPen o5 a0 x2).bind fun v10 =>
      (fX4_bitsOf v10).bind fun v11 =>
      if v11 = (iI 3) then
        (some (iI (-3), o5))
      else
      (fX4_becomes o5 a0 (((iI 8) + ((iI 9) * x1)) + (iI 2)) x2).bind fun o13 =>
      some (o13.1, o13.2))
    else
    some (iI (-2), o5))
  else none
def fX4_isPart (x0 : Int32) : Option (Int32) :=
  (fX4_in x0.toInt64 (lI 0) (lI 1)).bind fun v1 =>
  (ckZ v1).bind fun z =>
  some z
def fX4_fence (h : Hp) (a0 : Nat) (x1 : Int32) (x2 : Int32) (x3 : Int32) : Option (Int32 × Hp) :=
  if ep_cls h a0 = some 4 then
    ((fX4_isPen h a0 x1).bind fun v1 =>
    if v1 = 0 then
      (some (iI (-1), h))
    else
    (fX4_isPart x2).bind fun v3 =>
    if v3 = 0 then
      (some (iI (-1), h))
    else
    (fX4_in x3.toInt64 (if x2 = 0 then lI 1 else lI 0) (if x2 = 0 then (9 : Int64) else (4 : Int64))).bind fun v9 =>
    if v9 = 0 then
      (some (iI (-1), h))
    else
    (fX4_becomes h a0 (((iI 2) * x1) + x2) x3).bind fun o11 =>
    some (o11.1, o11.2))
  else none
def fX4_raise (h : Hp) (a0 : Nat) (x1 : Int32) (x2 : Int32) (x3 : Int32) : Option (Int32 × Hp) :=
  if ep_cls h a0 = some 4 then
    ((fX4_isEcho h a0 x1).bind fun v1 =>
    if v1 = 0 then
      (some (iI (-1), h))
    else
    (fX4_isPart x2).bind fun v3 =>
    if v3 = 0 then
      (some (iI (-1), h))
    else
    (fX4_in x3.toInt64 (lI 0) (if x2 = 0 then (99 : Int64) else (3 : Int64))).bind fun v7 =>
    if v7 = 0 then
      (some (iI (-1), h))
    else
    (fX4_becomes h a0 (((iI 8) + ((iI 9) * x1)) + (if x2 = 0 then iI 1 else iI 0)) x3).bind fun o11 =>
    some (o11.1, o11.2))
  else none
def fX4_becomesOf (h : Hp) (a0 : Nat) (x1 : Int32) (x2 : Int32) (x3 : Int32) : Option (Hp) :=
  if ep_cls h a0 = some 4 then
    ((gR h a0 4 1).bind fun r1 =>
    (aS 0 h r1 (((iI 8) + ((iI 9) * x1)) + x2) x3).bind fun h2 =>
    some h2)
  else none
def fX4_losesLetter (h : Hp) (a0 : Nat) (x1 : Int32) : Option (Hp) :=
  if ep_cls h a0 = some 4 then
    ((fX4_of h a0 x1 (iI 3)).bind fun v1 =>
    (
      if v1 ≤ 0 then
        (some (iI 0))
      else
      (fX4_of h a0 x1 (iI 3)).bind fun v4 =>
      some (v4 - (iI 1))).bind fun o2 =>
    (fX4_becomesOf h a0 x1 (iI 3) o2).bind fun o5 =>
    some o5)
  else none
def fX4_settles_L2 (a0 : Nat) : Nat → Hp → Int32 → Option (Hp)
  | 0, _, _ => none
  | fu + 1, h, x1 =>
    if (iI 75) ≤ x1 then
      (some h)
    else
    (gR h a0 4 0).bind fun r3 =>
    (gR h a0 4 1).bind fun r4 =>
    (aI 0 h r4 x1).bind fun v5 =>
    (aS 0 h r3 x1 v5).bind fun h6 =>
    fX4_settles_L2 a0 fu h6 (x1 + iI 1)
def fX4_settles (h : Hp) (a0 : Nat) : Option (Hp) :=
  if ep_cls h a0 = some 4 then
    ((fX4_settles_L2 a0 FUEL h (iI 0)).bind fun o1 =>
    some o1)
  else none
def fX4_clip (h : Hp) (a0 : Nat) (x1 : Int32) : Option (Int32 × Hp) :=
  if ep_cls h a0 = some 4 then
    ((fX4_isEcho h a0 x1).bind fun v1 =>
    if v1 = 0 then
      (some (iI (-1), h))
    else
    (fX4_starts h a0).bind fun o3 =>
    (fX4_of o3 a0 x1 (iI 3)).bind fun v4 =>
    if v4 = 0 then
      (some (iI (-2), o3))
    else
    (fX4_isSold o3 a0 x1).bind fun v6 =>
    if v6 = 0 then
      ((fX4_losesLetter o3 a0 x1).bind fun o8 =>
      (fX4_settles o8 a0).bind fun o9 =>
      (fX4_of o9 a0 x1 (iI 3)).bind fun v10 =>
      some (v10, o9))
    else
    some (iI (-2), o3))
  else none
def fX4_teach (h : Hp) (a0 : Nat) (x1 : Int32) (x2 : Int32) : Option (Int32 × Hp) :=
  if ep_cls h a0 = some 4 then
    ((fX4_isEcho h a0 x1).bind fun v1 =>
    if v1 = 0 then
      (some (iI (-1), h))
    else
    (fX4_in x2.toInt64 (97 : Int64) (122 : Int64)).bind fun v3 =>
    if v3 = 0 then
      (some (iI (-1), h))
    else
    (fX4_starts h a0).bind fun o5 =>
    (fX4_isSold o5 a0 x1).bind fun v6 =>
    if v6 = 0 then
      ((fX4_of o5 a0 x1 (iI 3)).bind fun v8 =>
      if v8 = (iI 5) then
        (some (iI (-3), o5))
      else
      (gR o5 a0 4 0).bind fun r10 =>
      (aS 0 o5 r10 ((((iI 8) + ((iI 9) * x1)) + (iI 4)) + v8) x2).bind fun h11 =>
      (gR h11 a0 4 0).bind fun r12 =>
      (aS 0 h11 r12 (((iI 8) + ((iI 9) * x1)) + (iI 3)) (v8 + (iI 1))).bind fun h13 =>
      some ((v8 + (iI 1)), h13))
    else
    some (iI (-2), o5))
  else none
def fX4_cross_L55 (a0 : Nat) (x1 : Int32) (x2 : Int32) : Nat → Hp → Int32 → Option (Hp)
  | 0, _, _ => none
  | fu + 1, h, x3 =>
    if (iI 9) ≤ x3 then
      (some h)
    else
    (gR h a0 4 0).bind fun r14 =>
    (fX4_of h a0 x2 x3).bind fun v15 =>
    (aS 0 h r14 (((iI 8) + ((iI 9) * x1)) + x3) v15).bind fun h16 =>
    (gR h16 a0 4 0).bind fun r17 =>
    (fX4_of h16 a0 x1 x3).bind fun v18 =>
    (aS 0 h16 r17 (((iI 8) + ((iI 9) * x2)) + x3) v18).bind fun h19 =>
    fX4_cross_L55 a0 x1 x2 fu h19 (x3 + iI 1)
def fX4_cross (h : Hp) (a0 : Nat) (x1 : Int32) (x2 : Int32) : Option (Int32 × Hp) :=
  if ep_cls h a0 = some 4 then
    ((fX4_isEcho h a0 x1).bind fun v1 =>
    if v1 = 0 then
      (some (iI (-1), h))
    else
    (fX4_isEcho h a0 x2).bind fun v3 =>
    if v3 = 0 then
      (some (iI (-1), h))
    else
    if x1 = x2 then
      (some (iI (-1), h))
    else
    (fX4_starts h a0).bind fun o6 =>
    (fX4_isSold o6 a0 x1).bind fun v7 =>
    if v7 = 0 then
      ((fX4_of o6 a0 x1 (iI 2)).bind fun v9 =>
      (fX4_of o6 a0 x2 (iI 2)).bind fun v10 =>
      if v9 = v10 then
        ((fX4_cross_L55 a0 x1 x2 FUEL o6 (iI 3)).bind fun o12 =>
        (fX4_of o12 a0 x2 (iI 3)).bind fun v20 =>
        some (v20, o12))
      else
      some (iI (-2), o6))
    else
    some (iI (-2), o6))
  else none
def fX4_isWildOne (h : Hp) (a0 : Nat) (x1 : Int32) : Option (Int32) :=
  if ep_cls h a0 = some 4 then
    ((fX4_of h a0 x1 (iI 0)).bind fun v1 =>
    if v1 = (iI 3) then
      ((fX4_isSilent h a0 x1).bind fun v3 =>
      if v3 = 0 then
        (some (iI 1))
      else
      some (iI 0))
    else
    some (iI 0))
  else none
def fX4_growthOf_L4 (h : Hp) (a0 : Nat) (x1 : Int32) : Nat → Int32 → Int32 → Option (Int32)
  | 0, _, _ => none
  | fu + 1, x2, x3 =>
    (fX4_of h a0 x1 (iI 3)).bind fun v2 =>
    if v2 ≤ x3 then
      (some x2)
    else
    (fX4_of h a0 x1 ((iI 4) + x3)).bind fun v4 =>
    (fX4_vowelOf v4).bind fun v5 =>
    (gR h a0 4 1).bind fun r6 =>
    (fX4_of h a0 x1 (iI 2)).bind fun v7 =>
    (aI 0 h r6 (((iI 2) * v7) + (iI 1))).bind fun v8 =>
    (fX4_flag (if v5 = v8 then iI 1 else iI 0)).bind fun v11 =>
    fX4_growthOf_L4 h a0 x1 fu (x2 + v11) (x3 + iI 1)
def fX4_growthOf (h : Hp) (a0 : Nat) (x1 : Int32) : Option (Int32) :=
  if ep_cls h a0 = some 4 then
    ((fX4_growthOf_L4 h a0 x1 FUEL (iI 0) (iI 0)).bind fun o1 =>
    (fX4_of h a0 x1 (iI 0)).bind fun v12 =>
    if v12 = (iI 1) then
      (some ((iI 2) * o1))
    else
    if v12 = (iI 3) then
      (some ((iI 2) * o1))
    else
    if v12 = (iI 2) then
      (if o1 ≤ (iI 1) then
        (some o1)
      else
      some (iI 1))
    else
    some o1)
  else none
def fX4_weekGoes_L14 (h : Hp) (a0 : Nat) (x2 : Int32) : Nat → Int32 → Int32 → Option (Int32)
  | 0, _, _ => none
  | fu + 1, x1, x3 =>
    (gI h a0 4 4).bind fun v5 =>
    if v5 ≤ x3 then
      (some x1)
    else
    (fX4_isSold h a0 x2).bind fun v7 =>
    (
      if v7 = 0 then
        ((fX4_of h a0 x2 (iI 0)).bind fun v10 =>
        if v10 = (iI 3) then
          (some (iI 0))
        else
        (fX4_of h a0 x3 (iI 2)).bind fun v12 =>
        (fX4_of h a0 x2 (iI 2)).bind fun v13 =>
        if v12 = v13 then
          ((fX4_isWildOne h a0 x3).bind fun v15 =>
          if v15 = 0 then
            (some (iI 0))
          else
          some (iI 1))
        else
        some (iI 0))
      else
      some (iI 0)).bind fun o8 =>
    (fX4_flag o8).bind fun v17 =>
    fX4_weekGoes_L14 h a0 x2 fu (x1 ||| (v17 <<< (x2 &&& 31))) (x3 + iI 1)
def fX4_weekGoes_L90 (a0 : Nat) (x1 : Int32) : Nat → Hp → Int32 → Option (Hp)
  | 0, _, _ => none
  | fu + 1, h, x2 =>
    (gI h a0 4 4).bind fun v19 =>
    if v19 ≤ x2 then
      (some h)
    else
    (
      if ((x1 >>> (x2 &&& 31)) &&& (iI 1)) = (iI 1) then
        ((fX4_losesLetter h a0 x2).bind fun o23 =>
        some o23)
      else
      some h).bind fun o21 =>
    (fX4_isSold o21 a0 x2).bind fun v24 =>
    (
      if v24 = 0 then
        ((fX4_isSilent o21 a0 x2).bind fun v27 =>
        if v27 = 0 then
          ((fX4_of o21 a0 x2 (iI 1)).bind fun v29 =>
          (fX4_growthOf o21 a0 x2).bind fun v30 =>
          (fX4_becomesOf o21 a0 x2 (iI 1) (if ((v29 + v30) - (iI 1)) ≤ (iI 99) then ((v29 + v30) - (iI 1)) else iI 99)).bind fun o33 =>
          some o33)
        else
        some o21)
      else
      some o21).bind fun o25 =>
    fX4_weekGoes_L90 a0 x1 fu o25 (x2 + iI 1)
def fX4_weekGoes_L4 (h : Hp) (a0 : Nat) : Nat → Int32 → Int32 → Option (Int32)
  | 0, _, _ => none
  | fu + 1, x1, x2 =>
    (gI h a0 4 4).bind fun v2 =>
    if v2 ≤ x2 then
      (some x1)
    else
    (fX4_weekGoes_L14 h a0 x2 FUEL x1 (iI 0)).bind fun o4 =>
    fX4_weekGoes_L4 h a0 fu o4 (x2 + iI 1)
def fX4_weekGoes (h : Hp) (a0 : Nat) : Option (Hp) :=
  if ep_cls h a0 = some 4 then
    ((fX4_weekGoes_L4 h a0 FUEL (iI 0) (iI 0)).bind fun o1 =>
    (fX4_weekGoes_L90 a0 o1 FUEL h (iI 0)).bind fun o18 =>
    (gR o18 a0 4 1).bind fun r34 =>
    (aI 0 o18 r34 (iI 54)).bind fun v35 =>
    (aS 0 o18 r34 (iI 54) (v35 + (iI 1))).bind fun h36 =>
    some h36)
  else none
def fX4_weeksGo_L2 (a0 : Nat) (x1 : Int32) : Nat → Hp → Int32 → Option (Hp)
  | 0, _, _ => none
  | fu + 1, h, x2 =>
    if x1 ≤ x2 then
      (some h)
    else
    (fX4_weekGoes h a0).bind fun o3 =>
    fX4_weeksGo_L2 a0 x1 fu o3 (x2 + iI 1)
def fX4_weeksGo (h : Hp) (a0 : Nat) (x1 : Int32) : Option (Hp) :=
  if ep_cls h a0 = some 4 then
    ((fX4_weeksGo_L2 a0 x1 FUEL h (iI 0)).bind fun o1 =>
    some o1)
  else none
def fX4_go (h : Hp) (a0 : Nat) (x1 : Int32) : Option (Int32 × Hp) :=
  if ep_cls h a0 = some 4 then
    ((fX4_in x1.toInt64 (lI 0) (30 : Int64)).bind fun v1 =>
    if v1 = 0 then
      (some (iI (-1), h))
    else
    (gR h a0 4 0).bind fun r3 =>
    (aI 0 h r3 (iI 54)).bind fun v4 =>
    if (v4 + x1) ≤ (iI 999) then
      ((fX4_starts h a0).bind fun o6 =>
      (fX4_silentNow o6 a0).bind fun v7 =>
      (fX4_weeksGo o6 a0 x1).bind fun o8 =>
      (fX4_silentNow o8 a0).bind fun v9 =>
      (fX4_bitsOf (v9 &&& (v7 ^^^ (iI (-1))))).bind fun v10 =>
      (fX4_settles o8 a0).bind fun o11 =>
      some (v10, o11))
    else
    some (iI (-3), h))
  else none
def fX4_ahead (h : Hp) (a0 : Nat) (x1 : Int32) (x2 : Int32) (x3 : Int32) : Option (Int32 × Hp) :=
  if ep_cls h a0 = some 4 then
    ((fX4_isEcho h a0 x1).bind fun v1 =>
    if v1 = 0 then
      (some (iI (-1), h))
    else
    (fX4_in x2.toInt64 (lI 0) (30 : Int64)).bind fun v3 =>
    if v3 = 0 then
      (some (iI (-1), h))
    else
    (fX4_in x3.toInt64 (lI 0) (2 : Int64)).bind fun v5 =>
    if v5 = 0 then
      (some (iI (-1), h))
    else
    (fX4_starts h a0).bind fun o7 =>
    (fX4_weeksGo o7 a0 x2).bind fun o8 =>
    if x3 = 0 then
      ((fX4_of o8 a0 x1 (iI 1)).bind fun v13 =>
      some (v13, o8))
    else
    if x3 = (iI 1) then
      ((fX4_of o8 a0 x1 (iI 3)).bind fun v12 =>
      some (v12, o8))
    else
    (fX4_returnsOf o8 a0 x1).bind fun v11 =>
    some (v11, o8))
  else none
def fX4_isOpen (h : Hp) (a0 : Nat) (x1 : Int32) : Option (Int32) :=
  if ep_cls h a0 = some 4 then
    ((gR h a0 4 1).bind fun r1 =>
    (aI 0 h r1 (iI 53)).bind fun v2 =>
    if ((v2 >>> (x1 &&& 31)) &&& (iI 1)) = 0 then
      (some (iI 1))
    else
    some (iI 0))
  else none
def fX4_endsSo_L32 (h : Hp) (a0 : Nat) (x1 : Int32) (x2 : Int32) (x3 : Int32) : Nat → Int32 → Int32 → Option (Int32)
  | 0, _, _ => none
  | fu + 1, x4, x5 =>
    if x3 ≤ x5 then
      (some x4)
    else
    if x4 = 0 then
      (some x4)
    else
    (fX4_of h a0 x1 (iI 3)).bind fun v9 =>
    (fX4_of h a0 x1 ((((iI 4) + v9) - x3) + x5)).bind fun v10 =>
    (gR h a0 4 6).bind fun r11 =>
    (aI 0 h r11 ((((iI 8) * x2) + (iI 1)) + x5)).bind fun v12 =>
    fX4_endsSo_L32 h a0 x1 x2 x3 fu (if v10 = v12 then iI 1 else iI 0) (x5 + iI 1)
def fX4_endsSo (h : Hp) (a0 : Nat) (x1 : Int32) (x2 : Int32) : Option (Int32) :=
  if ep_cls h a0 = some 4 then
    ((gR h a0 4 6).bind fun r1 =>
    (aI 0 h r1 (((iI 8) * x2) + (iI 0))).bind fun v2 =>
    (fX4_of h a0 x1 (iI 3)).bind fun v3 =>
    (fX4_endsSo_L32 h a0 x1 x2 v2 FUEL (if v3 < v2 then iI 0 else iI 1) (iI 0)).bind fun o6 =>
    (ckZ o6).bind fun z =>
    some z)
  else none
def fX4_doesMeet (h : Hp) (a0 : Nat) (x1 : Int32) (x2 : Int32) : Option (Int32) :=
  if ep_cls h a0 = some 4 then
    ((fX4_isOpen h a0 x2).bind fun v1 =>
    if v1 = 0 then
      (some (iI 0))
    else
    (fX4_isSold h a0 x1).bind fun v3 =>
    if v3 = 0 then
      ((fX4_returnsOf h a0 x1).bind fun v5 =>
      (gR h a0 4 6).bind fun r6 =>
      (aI 0 h r6 (((iI 8) * x2) + (iI 6))).bind fun v7 =>
      if v5 < v7 then
        (some (iI 0))
      else
      (fX4_endsSo h a0 x1 x2).bind fun v9 =>
      if v9 = 0 then
        (some (iI 0))
      else
      some (iI 1))
    else
    some (iI 0))
  else none
def fX4_when_L24 (a0 : Nat) (x1 : Int32) (x2 : Int32) : Nat → Hp → Int32 → Option ((Int32 × Hp) ⊕ (Hp))
  | 0, _, _ => none
  | fu + 1, h, x3 =>
    if (iI 30) < x3 then
      (some (.inr h))
    else
    (fX4_doesMeet h a0 x1 x2).bind fun v8 =>
    if v8 = 0 then
      ((fX4_weekGoes h a0).bind fun o10 =>
      fX4_when_L24 a0 x1 x2 fu o10 (x3 + iI 1))
    else
    some (.inl (x3, h))
def fX4_when (h : Hp) (a0 : Nat) (x1 : Int32) (x2 : Int32) : Option (Int32 × Hp) :=
  if ep_cls h a0 = some 4 then
    ((fX4_isEcho h a0 x1).bind fun v1 =>
    if v1 = 0 then
      (some (iI (-1), h))
    else
    (fX4_isOrder h a0 x2).bind fun v3 =>
    if v3 = 0 then
      (some (iI (-1), h))
    else
    (fX4_starts h a0).bind fun o5 =>
    orL (fX4_when_L24 a0 x1 x2 FUEL o5 (iI 0)) (fun r => some r) fun o6 =>
    some (iI (-4), o6))
  else none
def fX4_lastHeard (h : Hp) (a0 : Nat) (x1 : Int32) : Option (Int32) :=
  if ep_cls h a0 = some 4 then
    ((fX4_returnsOf h a0 x1).bind fun v1 =>
    if v1 = 0 then
      (some (iI (-4)))
    else
    (fX4_periodOf h a0 x1).bind fun v3 =>
    (fX4_of h a0 x1 (iI 0)).bind fun v4 =>
    if v4 = (iI 2) then
      (some (v3 * (v1 - (iI 1))))
    else
    some (v3 * v1))
  else none
def fX4_isHeard (h : Hp) (a0 : Nat) (x1 : Int32) (x2 : Int32) : Option (Int32) :=
  if ep_cls h a0 = some 4 then
    ((fX4_returnsOf h a0 x1).bind fun v1 =>
    if v1 = 0 then
      (some (iI 0))
    else
    (fX4_of h a0 x1 (iI 0)).bind fun v3 =>
    if x2 = 0 then
      ((ckZ (if v3 = (iI 2) then iI 1 else iI 0)).bind fun z =>
      some z)
    else
    (fX4_lastHeard h a0 x1).bind fun v7 =>
    if v7 < x2 then
      (some (iI 0))
    else
    (fX4_periodOf h a0 x1).bind fun v9 =>
    (rmI x2 v9).bind fun v10 =>
    if v10 = 0 then
      (some (iI 1))
    else
    some (iI 0))
  else none
def fX4_heardIn_L5 (h : Hp) (a0 : Nat) (x1 : Int32) (x2 : Int32) : Nat → Int32 → Int32 → Option (Int32)
  | 0, _, _ => none
  | fu + 1, x3, x4 =>
    (gI h a0 4 4).bind fun v2 =>
    if v2 ≤ x4 then
      (some x3)
    else
    (fX4_of h a0 x4 (iI 2)).bind fun v4 =>
    (
      if v4 = x1 then
        ((fX4_isHeard h a0 x4 x2).bind fun v7 =>
        if v7 = 0 then
          (some (iI 0))
        else
        some (iI 1))
      else
      some (iI 0)).bind fun o5 =>
    (fX4_flag o5).bind fun v9 =>
    fX4_heardIn_L5 h a0 x1 x2 fu (x3 ||| (v9 <<< (x4 &&& 31))) (x4 + iI 1)
def fX4_heardIn (h : Hp) (a0 : Nat) (x1 : Int32) (x2 : Int32) : Option (Int32) :=
  if ep_cls h a0 = some 4 then
    ((fX4_heardIn_L5 h a0 x1 x2 FUEL (iI 0) (iI 0)).bind fun o1 =>
    some o1)
  else none
def fX4_heard (h : Hp) (a0 : Nat) (x1 : Int32) (x2 : Int32) : Option (Int32 × Hp) :=
  if ep_cls h a0 = some 4 then
    ((fX4_isPen h a0 x1).bind fun v1 =>
    if v1 = 0 then
      (some (iI (-1), h))
    else
    (fX4_in x2.toInt64 (lI 0) (99 : Int64)).bind fun v3 =>
    if v3 = 0 then
      (some (iI (-1), h))
    else
    (fX4_starts h a0).bind fun o5 =>
    (fX4_heardIn o5 a0 x1 x2).bind fun v6 =>
    some (v6, o5))
  else none
def fX4_together_L22 (h : Hp) (a0 : Nat) (x1 : Int32) (x2 : Int32) : Nat → Int32 → Option ((Int32 × Hp) ⊕ (Unit))
  | 0, _ => none
  | fu + 1, x3 =>
    if (iI 100) ≤ x3 then
      (some (.inr ()))
    else
    if x2 = 0 then
      (some (.inr ()))
    else
    (fX4_heardIn h a0 x1 x3).bind fun v8 =>
    if v8 = x2 then
      (some (.inl (x3, h)))
    else
    fX4_together_L22 h a0 x1 x2 fu (x3 + iI 1)
def fX4_together (h : Hp) (a0 : Nat) (x1 : Int32) : Option (Int32 × Hp) :=
  if ep_cls h a0 = some 4 then
    ((fX4_isPen h a0 x1).bind fun v1 =>
    if v1 = 0 then
      (some (iI (-1), h))
    else
    (fX4_starts h a0).bind fun o3 =>
    (fX4_inPen o3 a0 x1).bind fun v4 =>
    orL (fX4_together_L22 o3 a0 x1 v4 FUEL (iI 0)) (fun r => some r) fun o5 =>
    some (iI (-4), o3))
  else none
def fX4_still_L19 (h : Hp) (a0 : Nat) (x1 : Int32) : Nat → Int32 → Int32 → Option (Int32)
  | 0, _, _ => none
  | fu + 1, x2, x3 =>
    (gI h a0 4 4).bind fun v5 =>
    if v5 ≤ x3 then
      (some x2)
    else
    (fX4_of h a0 x3 (iI 2)).bind fun v7 =>
    (
      if v7 = x1 then
        ((fX4_lastHeard h a0 x3).bind fun v10 =>
        if v10 ≤ x2 then
          (some x2)
        else
        (fX4_lastHeard h a0 x3).bind fun v12 =>
        some v12)
      else
      some x2).bind fun o8 =>
    fX4_still_L19 h a0 x1 fu o8 (x3 + iI 1)
def fX4_still (h : Hp) (a0 : Nat) (x1 : Int32) : Option (Int32 × Hp) :=
  if ep_cls h a0 = some 4 then
    ((fX4_isPen h a0 x1).bind fun v1 =>
    if v1 = 0 then
      (some (iI (-1), h))
    else
    (fX4_starts h a0).bind fun o3 =>
    (fX4_still_L19 o3 a0 x1 FUEL (iI (-4)) (iI 0)).bind fun o4 =>
    some (o4, o3))
  else none
def fX4_meets_L18 (h : Hp) (a0 : Nat) (x1 : Int32) : Nat → Int32 → Int32 → Option (Int32)
  | 0, _, _ => none
  | fu + 1, x2, x3 =>
    (gI h a0 4 5).bind fun v5 =>
    if v5 ≤ x3 then
      (some x2)
    else
    (fX4_doesMeet h a0 x1 x3).bind fun v7 =>
    (fX4_flag v7).bind fun v8 =>
    fX4_meets_L18 h a0 x1 fu (x2 ||| (v8 <<< (x3 &&& 31))) (x3 + iI 1)
def fX4_meets (h : Hp) (a0 : Nat) (x1 : Int32) : Option (Int32 × Hp) :=
  if ep_cls h a0 = some 4 then
    ((fX4_isEcho h a0 x1).bind fun v1 =>
    if v1 = 0 then
      (some (iI (-1), h))
    else
    (fX4_starts h a0).bind fun o3 =>
    (fX4_meets_L18 o3 a0 x1 FUEL (iI 0) (iI 0)).bind fun o4 =>
    some (o4, o3))
  else none
def fX4_sell (h : Hp) (a0 : Nat) (x1 : Int32) (x2 : Int32) : Option (Int32 × Hp) :=
  if ep_cls h a0 = some 4 then
    ((fX4_isEcho h a0 x1).bind fun v1 =>
    if v1 = 0 then
      (some (iI (-1), h))
    else
    (fX4_isOrder h a0 x2).bind fun v3 =>
    if v3 = 0 then
      (some (iI (-1), h))
    else
    (fX4_starts h a0).bind fun o5 =>
    (fX4_doesMeet o5 a0 x1 x2).bind fun v6 =>
    if v6 = 0 then
      (some (iI (-2), o5))
    else
    (gR o5 a0 4 0).bind fun r8 =>
    (aS 0 o5 r8 (((iI 8) + ((iI 9) * x1)) + (iI 2)) (iI (-4))).bind fun h9 =>
    (gR h9 a0 4 0).bind fun r10 =>
    (aI 0 h9 r10 (iI 53)).bind fun v11 =>
    (aS 0 h9 r10 (iI 53) (v11 ||| ((iI 1) <<< (x2 &&& 31)))).bind fun h12 =>
    (gR h12 a0 4 0).bind fun r13 =>
    (aI 0 h12 r13 (iI 55)).bind fun v14 =>
    (gR h12 a0 4 6).bind fun r15 =>
    (aI 0 h12 r15 (((iI 8) * x2) + (iI 7))).bind fun v16 =>
    (aS 0 h12 r13 (iI 55) (v14 + v16)).bind fun h17 =>
    (gR h17 a0 4 0).bind fun r18 =>
    (aI 0 h17 r18 (iI 55)).bind fun v19 =>
    some (v19, h17))
  else none
def fX4_findMeeting_L19 (a0 : Nat) (x1 : Int32) : Nat → Hp → Int32 → Option (Hp)
  | 0, _, _ => none
  | fu + 1, h, x2 =>
    (gI h a0 4 4).bind fun v7 =>
    if v7 ≤ x2 then
      (some h)
    else
    (gR h a0 4 21).bind fun r9 =>
    (aI 0 h r9 x1).bind fun v10 =>
    (fX4_doesMeet h a0 x2 x1).bind fun v11 =>
    (fX4_flag v11).bind fun v12 =>
    (aS 0 h r9 x1 (v10 ||| (v12 <<< (x2 &&& 31)))).bind fun h13 =>
    fX4_findMeeting_L19 a0 x1 fu h13 (x2 + iI 1)
def fX4_findMeeting_L2 (a0 : Nat) : Nat → Hp → Int32 → Option (Hp)
  | 0, _, _ => none
  | fu + 1, h, x1 =>
    (gI h a0 4 5).bind fun v2 =>
    if v2 ≤ x1 then
      (some h)
    else
    (gR h a0 4 21).bind fun r4 =>
    (aS 0 h r4 x1 (iI 0)).bind fun h5 =>
    (fX4_findMeeting_L19 a0 x1 FUEL h5 (iI 0)).bind fun o6 =>
    fX4_findMeeting_L2 a0 fu o6 (x1 + iI 1)
def fX4_findMeeting (h : Hp) (a0 : Nat) : Option (Hp) :=
  if ep_cls h a0 = some 4 then
    ((fX4_findMeeting_L2 a0 FUEL h (iI 0)).bind fun o1 =>
    some o1)
  else none
def fX4_power_L4 (x0 : Int32) (x1 : Int32) : Nat → Int32 → Int32 → Option (Int32)
  | 0, _, _ => none
  | fu + 1, x2, x3 =>
    if x1 ≤ x3 then
      (some x2)
    else
    fX4_power_L4 x0 x1 fu (x2 * x0) (x3 + iI 1)
def fX4_power (x0 : Int32) (x1 : Int32) : Option (Int32) :=
  (fX4_power_L4 x0 x1 FUEL (iI 1) (iI 0)).bind fun o1 =>
  some o1
def fX4_earned_L15 (h : Hp) (a0 : Nat) : Nat → Int32 → Int32 → Int32 → Int32 → Option ((Int32) ⊕ (Int32))
  | 0, _, _, _, _ => none
  | fu + 1, x2, x3, x4, x5 =>
    if x5 < 0 then
      (some (.inr x3))
    else
    (rmI x2 (iI 6)).bind fun v4 =>
    (dvI x2 (iI 6)).bind fun v5 =>
    orL (
      if (v4 - (iI 1)) < 0 then
        (some (.inr (x3, x4)))
      else
      (gR h a0 4 21).bind fun r8 =>
      (aI 0 h r8 x5).bind fun v9 =>
      if ((v9 >>> ((v4 - (iI 1)) &&& 31)) &&& (iI 1)) = 0 then
        (some (.inl (iI (-4))))
      else
      if ((x4 >>> ((v4 - (iI 1)) &&& 31)) &&& (iI 1)) = (iI 1) then
        (some (.inl (iI (-4))))
      else
      (gR h a0 4 6).bind fun r12 =>
      (aI 0 h r12 (((iI 8) * x5) + (iI 7))).bind fun v13 =>
      some (.inr ((x3 + v13), (x4 ||| ((iI 1) <<< ((v4 - (iI 1)) &&& 31)))))) (fun r => some (.inl r)) fun o6 =>
    fX4_earned_L15 h a0 fu v5 o6.1 o6.2 (x5 + iI (-1))
def fX4_earned (h : Hp) (a0 : Nat) (x1 : Int32) : Option (Int32) :=
  if ep_cls h a0 = some 4 then
    ((gI h a0 4 5).bind fun v1 =>
    orL (fX4_earned_L15 h a0 FUEL x1 (iI 0) (iI 0) (v1 - (iI 1))) (fun r => some r) fun o2 =>
    some o2)
  else none
def fX4_bestSale_L8 (a0 : Nat) : Nat → Hp → Int32 → Int32 → Option (Hp × Int32)
  | 0, _, _, _ => none
  | fu + 1, h, x1, x2 =>
    (gI h a0 4 5).bind fun v3 =>
    (fX4_power (iI 6) v3).bind fun v4 =>
    if v4 ≤ x2 then
      (some (h, x1))
    else
    (fX4_earned h a0 x2).bind fun v6 =>
    (
      if v6 ≤ x1 then
        ((gI h a0 4 22).bind fun v9 =>
        some v9)
      else
      some x2).bind fun o7 =>
    (pF h a0 4 22 (.int o7)).bind fun h10 =>
    fX4_bestSale_L8 a0 fu h10 (if v6 ≤ x1 then x1 else v6) (x2 + iI 1)
def fX4_bestSale (h : Hp) (a0 : Nat) : Option (Int32 × Hp) :=
  if ep_cls h a0 = some 4 then
    ((fX4_findMeeting h a0).bind fun o1 =>
    (fX4_bestSale_L8 a0 FUEL o1 (iI (-1)) (iI 0)).bind fun o2 =>
    some (o2.2, o2.1))
  else none
def fX4_buyerOf (h : Hp) (a0 : Nat) (x1 : Int32) (x2 : Int32) : Option (Int32) :=
  if ep_cls h a0 = some 4 then
    ((gI h a0 4 5).bind fun v1 =>
    (fX4_power (iI 6) ((v1 - (iI 1)) - x2)).bind fun v2 =>
    (dvI x1 v2).bind fun v3 =>
    (rmI v3 (iI 6)).bind fun v4 =>
    some (v4 - (iI 1)))
  else none
def fX4_sale (h : Hp) (a0 : Nat) (x1 : Int32) : Option (Int32 × Hp) :=
  if ep_cls h a0 = some 4 then
    (orL (
      if x1 = 0 then
        (some (.inr ()))
      else
      (fX4_isOrder h a0 (x1 - (iI 10))).bind fun v3 =>
      if v3 = 0 then
        (some (.inl (iI (-1), h)))
      else
      some (.inr ())) (fun r => some r) fun o1 =>
    (fX4_starts h a0).bind fun o5 =>
    (fX4_bestSale o5 a0).bind fun o6 =>
    if x1 = 0 then
      (some (o6.1, o6.2))
    else
    (gI o6.2 a0 4 22).bind fun v8 =>
    (fX4_buyerOf o6.2 a0 v8 (x1 - (iI 10))).bind fun v9 =>
    if 0 ≤ v9 then
      (some (v9, o6.2))
    else
    some (iI (-4), o6.2))
  else none
def fX4_droves_L4 (h : Hp) (a0 : Nat) : Nat → Int32 → Int32 → Option (Int32)
  | 0, _, _ => none
  | fu + 1, x1, x2 =>
    (gI h a0 4 4).bind fun v2 =>
    if v2 ≤ x2 then
      (some x1)
    else
    (gR h a0 4 0).bind fun r4 =>
    (aI 0 h r4 (((iI 8) + ((iI 9) * x2)) + (iI 2))).bind fun v5 =>
    (
      if v5 = (iI (-4)) then
        (some (iI 1))
      else
      (gI h a0 4 3).bind fun v8 =>
      some v8).bind fun o6 =>
    fX4_droves_L4 h a0 fu (x1 * o6) (x2 + iI 1)
def fX4_droves (h : Hp) (a0 : Nat) : Option (Int32) :=
  if ep_cls h a0 = some 4 then
    ((fX4_droves_L4 h a0 FUEL (iI 1) (iI 0)).bind fun o1 =>
    some o1)
  else none
def fX4_drivesBy_L59 (h : Hp) (a0 : Nat) : Nat → Int32 → Int32 → Option (Int32)
  | 0, _, _ => none
  | fu + 1, x3, x4 =>
    (gI h a0 4 3).bind fun v14 =>
    if v14 ≤ x4 then
      (some x3)
    else
    (
      if x3 = 0 then
        (some (iI 0))
      else
      (fX4_inPen h a0 x4).bind fun v18 =>
      (fX4_bitsOf v18).bind fun v19 =>
      if (iI 3) < v19 then
        (some (iI 0))
      else
      some (iI 1)).bind fun o16 =>
    fX4_drivesBy_L59 h a0 fu o16 (x4 + iI 1)
def fX4_drivesBy_L16 (a0 : Nat) (x3 : Int32) : Nat → Hp → Int32 → Int32 → Option (Hp)
  | 0, _, _, _ => none
  | fu + 1, h, x2, x4 =>
    if x4 < 0 then
      (some h)
    else
    (fX4_isSold h a0 x4).bind fun v5 =>
    (
      if v5 = 0 then
        ((gI h a0 4 3).bind fun v8 =>
        (rmI x2 v8).bind fun v9 =>
        (fX4_becomesOf h a0 x4 (iI 2) v9).bind fun o10 =>
        (gI o10 a0 4 3).bind fun v11 =>
        (dvI x2 v11).bind fun v12 =>
        some (o10, v12))
      else
      some (h, x2)).bind fun o6 =>
    fX4_drivesBy_L16 a0 x3 fu o6.1 o6.2 (x4 + iI (-1))
def fX4_drivesBy (h : Hp) (a0 : Nat) (x1 : Int32) : Option (Int32 × Hp) :=
  if ep_cls h a0 = some 4 then
    ((fX4_starts h a0).bind fun o1 =>
    (gI o1 a0 4 4).bind fun v2 =>
    (fX4_drivesBy_L16 a0 (iI 1) FUEL o1 x1 (v2 - (iI 1))).bind fun o3 =>
    (fX4_drivesBy_L59 o3 a0 FUEL (iI 1) (iI 0)).bind fun o13 =>
    (ckZ o13).bind fun z =>
    some (z, o3))
  else none
def fX4_best_L37 (a0 : Nat) (x1 : Int32) (x2 : Int32) : Nat → Hp → Int32 → Int32 → Int32 → Option (Hp × Int32 × Int32)
  | 0, _, _, _, _ => none
  | fu + 1, h, x3, x4, x5 =>
    (fX4_droves h a0).bind fun v8 =>
    if v8 ≤ x5 then
      (some (h, x3, x4))
    else
    (fX4_drivesBy h a0 x5).bind fun o10 =>
    (
      if o10.1 = 0 then
        (some (o10.2, x3, x4))
      else
      (fX4_weeksGo o10.2 a0 x1).bind fun o13 =>
      (fX4_bestSale o13 a0).bind fun o14 =>
      some (o14.2, (if o14.1 ≤ x3 then x3 else o14.1), (if o14.1 ≤ x3 then x4 else x5))).bind fun o11 =>
    fX4_best_L37 a0 x1 x2 fu o11.1 o11.2.1 o11.2.2 (x5 + iI 1)
def fX4_best (h : Hp) (a0 : Nat) (x1 : Int32) (x2 : Int32) : Option (Int32 × Hp) :=
  if ep_cls h a0 = some 4 then
    ((fX4_in x1.toInt64 (lI 0) (8 : Int64)).bind fun v1 =>
    if v1 = 0 then
      (some (iI (-1), h))
    else
    orL (
      if x2 = 0 then
        (some (.inr ()))
      else
      (fX4_isEcho h a0 (x2 - (iI 10))).bind fun v5 =>
      if v5 = 0 then
        (some (.inl (iI (-1), h)))
      else
      some (.inr ())) (fun r => some r) fun o3 =>
    (fX4_best_L37 a0 x1 x2 FUEL h (iI (-1)) (iI 0) (iI 0)).bind fun o7 =>
    (fX4_drivesBy o7.1 a0 o7.2.2).bind fun o19 =>
    if x2 = 0 then
      (some (o7.2.1, o19.2))
    else
    (fX4_of o19.2 a0 (x2 - (iI 10)) (iI 2)).bind fun v21 =>
    some (v21, o19.2))
  else none
def fX4_near_L35 (h : Hp) (a0 : Nat) (x1 : Int32) (x4 : Int32) : Nat → Int32 → Int32 → Int32 → Option (Int32 × Int32)
  | 0, _, _, _ => none
  | fu + 1, x2, x3, x5 =>
    (gI h a0 4 4).bind fun v8 =>
    if v8 ≤ x5 then
      (some (x2, x3))
    else
    (fX4_isOpen h a0 x4).bind fun v10 =>
    (
      if v10 = 0 then
        (some (x2, x3))
      else
      (fX4_isSold h a0 x5).bind fun v13 =>
      if v13 = 0 then
        ((fX4_endsSo h a0 x5 x4).bind fun v15 =>
        if v15 = 0 then
          (some (x2, x3))
        else
        (gR h a0 4 6).bind fun r17 =>
        (aI 0 h r17 (((iI 8) * x4) + (iI 6))).bind fun v18 =>
        (fX4_returnsOf h a0 x5).bind fun v19 =>
        nmI (if x2 ≤ (if (v18 - v19) ≤ 0 then iI 0 else (v18 - v19)) then x3 else (((iI 10) * x4) + x5)) fun x_24 =>
        nmI (if x2 ≤ (if (v18 - v19) ≤ 0 then iI 0 else (v18 - v19)) then x2 else (if (v18 - v19) ≤ 0 then iI 0 else (v18 - v19))) fun x_27 =>
        some (x_27, x_24))
      else
      some (x2, x3)).bind fun o11 =>
    fX4_near_L35 h a0 x1 x4 fu o11.1 o11.2 (x5 + iI 1)
def fX4_near_L23 (h : Hp) (a0 : Nat) (x1 : Int32) : Nat → Int32 → Int32 → Int32 → Option (Int32 × Int32)
  | 0, _, _, _ => none
  | fu + 1, x2, x3, x4 =>
    (gI h a0 4 5).bind fun v5 =>
    if v5 ≤ x4 then
      (some (x2, x3))
    else
    (fX4_near_L35 h a0 x1 x4 FUEL x2 x3 (iI 0)).bind fun o7 =>
    fX4_near_L23 h a0 x1 fu o7.1 o7.2 (x4 + iI 1)
def fX4_near (h : Hp) (a0 : Nat) (x1 : Int32) : Option (Int32 × Hp) :=
  if ep_cls h a0 = some 4 then
    ((fX4_isPart x1).bind fun v1 =>
    if v1 = 0 then
      (some (iI (-1), h))
    else
    (fX4_starts h a0).bind fun o3 =>
    (fX4_near_L23 o3 a0 x1 FUEL (1000000000 : Int32) (iI (-4)) (iI 0)).bind fun o4 =>
    if o4.2 = (iI (-4)) then
      (some (iI (-4), o3))
    else
    if x1 = 0 then
      (some (o4.2, o3))
    else
    some (o4.1, o3))
  else none
def fX4_findKept_L34 (a0 : Nat) (x1 : Int32) (x3 : Int32) (x4 : Int32) : Nat → Hp → Int32 → Option (Hp)
  | 0, _, _ => none
  | fu + 1, h, x5 =>
    if x3 ≤ x5 then
      (some h)
    else
    (gL h a0 4 25).bind fun v8 =>
    (pF h a0 4 25 (.long (v8 * (10 : Int64)))).bind fun h9 =>
    fX4_findKept_L34 a0 x1 x3 x4 fu h9 (x5 + iI 1)
def fX4_findKept_L79 (h : Hp) (a0 : Nat) (x1 : Int32) (x3 : Int32) (x4 : Int32) (x5 : Int32) : Nat → Int64 → Int32 → Int32 → Option (Int64 × Int32)
  | 0, _, _, _ => none
  | fu + 1, x6, x8, x9 =>
    if x3 ≤ x9 then
      (some (x6, x8))
    else
    (fX4_flag (if (if ((x5 >>> (x9 &&& 31)) &&& (iI 1)) = (iI 1) then iI 1 else iI 0) = 0 then iI 0 else (if x8 ≤ 0 then iI 0 else iI 1))).bind fun v21 =>
    fX4_findKept_L79 h a0 x1 x3 x4 x5 fu (x6 * (if (if ((x5 >>> (x9 &&& 31)) &&& (iI 1)) = (iI 1) then iI 1 else iI 0) = 0 then ((iI 10) - x1).toInt64 else x1.toInt64)) (x8 - v21) (x9 + iI 1)
def fX4_findKept_L61 (a0 : Nat) (x1 : Int32) (x3 : Int32) (x4 : Int32) : Nat → Hp → Int32 → Option (Hp)
  | 0, _, _ => none
  | fu + 1, h, x5 =>
    if ((iI 1) <<< (x3 &&& 31)) ≤ x5 then
      (some h)
    else
    (fX4_findKept_L79 h a0 x1 x3 x4 x5 FUEL (lI 1) x4 (iI 0)).bind fun o12 =>
    (gL h a0 4 23).bind fun v22 =>
    (pF h a0 4 23 (.long (v22 + (if o12.2 ≤ 0 then lI 0 else o12.1)))).bind fun h25 =>
    (gL h25 a0 4 24).bind fun v26 =>
    (pF h25 a0 4 24 (.long (v26 + (o12.2.toInt64 * o12.1)))).bind fun h27 =>
    fX4_findKept_L61 a0 x1 x3 x4 fu h27 (x5 + iI 1)
def fX4_findKept (h : Hp) (a0 : Nat) (x1 : Int32) (x2 : Int32) (x3 : Int32) : Option (Hp) :=
  if ep_cls h a0 = some 4 then
    ((gR h a0 4 0).bind fun r1 =>
    (aI 0 h r1 (((iI 8) + ((iI 9) * x2)) + (iI 3))).bind fun v2 =>
    (pF h a0 4 23 (.long (lI 0))).bind fun h3 =>
    (pF h3 a0 4 24 (.long (lI 0))).bind fun h4 =>
    (pF h4 a0 4 25 (.long (lI 1))).bind fun h5 =>
    (fX4_findKept_L34 a0 x1 x3 v2 FUEL h5 (iI 0)).bind fun o6 =>
    (fX4_findKept_L61 a0 x1 x3 v2 FUEL o6 (iI 0)).bind fun o10 =>
    some o10)
  else none
def fX4_common_L6 : Nat → Int64 → Int64 → Option (Int64)
  | 0, _, _ => none
  | fu + 1, x4, x6 =>
    if (lg_cmp x6 (lI 0)) = 0 then
      (some x4)
    else
    (rmL x4 x6).bind fun v3 =>
    fX4_common_L6 fu x6 v3
def fX4_common (x0 : Int64) (x2 : Int64) : Option (Int64) :=
  (fX4_common_L6 FUEL x0 x2).bind fun o1 =>
  some o1
def fX4_told (x0 : Int64) (x2 : Int64) (x4 : Int32) : Option (Int64) :=
  (fX4_common x2 x0).bind fun v1 =>
  if x4 = 0 then
    ((dvL x0 v1).bind fun v4 =>
    some v4)
  else
  (dvL x2 v1).bind fun v3 =>
  some v3
def fX4_keeps (h : Hp) (a0 : Nat) (x1 : Int32) (x2 : Int32) (x3 : Int32) (x4 : Int32) : Option (Int64 × Hp) :=
  if ep_cls h a0 = some 4 then
    ((fX4_in x1.toInt64 (lI 0) (10 : Int64)).bind fun v1 =>
    if v1 = 0 then
      (some ((-1 : Int64), h))
    else
    (fX4_isEcho h a0 x2).bind fun v3 =>
    if v3 = 0 then
      (some ((-1 : Int64), h))
    else
    (fX4_in x3.toInt64 (lI 0) (6 : Int64)).bind fun v5 =>
    if v5 = 0 then
      (some ((-1 : Int64), h))
    else
    (fX4_isPart x4).bind fun v7 =>
    if v7 = 0 then
      (some ((-1 : Int64), h))
    else
    (fX4_findKept h a0 x1 x2 x3).bind fun o9 =>
    (gL o9 a0 4 23).bind fun v10 =>
    (gL o9 a0 4 25).bind fun v11 =>
    (fX4_told v10 v11 x4).bind fun v12 =>
    some (v12, o9))
  else none
def fX4_mean (h : Hp) (a0 : Nat) (x1 : Int32) (x2 : Int32) (x3 : Int32) (x4 : Int32) : Option (Int64 × Hp) :=
  if ep_cls h a0 = some 4 then
    ((fX4_in x1.toInt64 (lI 0) (10 : Int64)).bind fun v1 =>
    if v1 = 0 then
      (some ((-1 : Int64), h))
    else
    (fX4_isEcho h a0 x2).bind fun v3 =>
    if v3 = 0 then
      (some ((-1 : Int64), h))
    else
    (fX4_in x3.toInt64 (lI 0) (6 : Int64)).bind fun v5 =>
    if v5 = 0 then
      (some ((-1 : Int64), h))
    else
    (fX4_isPart x4).bind fun v7 =>
    if v7 = 0 then
      (some ((-1 : Int64), h))
    else
    (fX4_findKept h a0 x1 x2 x3).bind fun o9 =>
    (gL o9 a0 4 24).bind fun v10 =>
    (gL o9 a0 4 25).bind fun v11 =>
    (fX4_told v10 v11 x4).bind fun v12 =>
    some (v12, o9))
  else none
def fX4_see (h : Hp) (a0 : Nat) (x1 : Int32) (x2 : Int32) (x3 : Int32) : Option (Int32 × Hp) :=
  if ep_cls h a0 = some 4 then
    ((fX4_isPen h a0 x1).bind fun v1 =>
    if v1 = 0 then
      (some (iI (-1), h))
    else
    (fX4_in x2.toInt64 (lI 0) (99 : Int64)).bind fun v3 =>
    if v3 = 0 then
      (some (iI (-1), h))
    else
    (fX4_in x3.toInt64 (lI 0) (5 : Int64)).bind fun v5 =>
    if v5 = 0 then
      (some (iI (-1), h))
    else
    (gR h a0 4 0).bind fun r7 =>
    (aI 0 h r7 (iI 56)).bind fun v8 =>
    if v8 = (iI 6) then
      (some (iI (-3), h))
    else
    (gR h a0 4 0).bind fun r10 =>
    (aI 0 h r10 (iI 56)).bind fun v11 =>
    (gR h a0 4 0).bind fun r12 =>
    (aS 0 h r12 ((iI 57) + ((iI 3) * v11)) x1).bind fun h13 =>
    (gR h13 a0 4 0).bind fun r14 =>
    (aS 0 h13 r14 (((iI 57) + ((iI 3) * v11)) + (iI 1)) x2).bind fun h15 =>
    (gR h15 a0 4 0).bind fun r16 =>
    (aS 0 h15 r16 (((iI 57) + ((iI 3) * v11)) + (iI 2)) x3).bind fun h17 =>
    (gR h17 a0 4 0).bind fun r18 =>
    (aI 0 h17 r18 (iI 56)).bind fun v19 =>
    (aS 0 h17 r18 (iI 56) (v19 + (iI 1))).bind fun h20 =>
    (gR h20 a0 4 0).bind fun r21 =>
    (aI 0 h20 r21 (iI 56)).bind fun v22 =>
    some (v22, h20))
  else none
def fX4_forget (h : Hp) (a0 : Nat) (x1 : Int32) : Option (Int32 × Hp) :=
  if ep_cls h a0 = some 4 then
    ((gR h a0 4 0).bind fun r1 =>
    (aI 0 h r1 (iI 56)).bind fun v2 =>
    (fX4_in x1.toInt64 (lI 0) v2.toInt64).bind fun v3 =>
    if v3 = 0 then
      (some (iI (-1), h))
    else
    (fX4_becomes h a0 (iI 56) x1).bind fun o5 =>
    some (o5.1, o5.2))
  else none
def fX4_isSo_L8 (h : Hp) (a0 : Nat) : Nat → Int32 → Int32 → Option (Int32)
  | 0, _, _ => none
  | fu + 1, x2, x3 =>
    (gR h a0 4 0).bind fun r3 =>
    (aI 0 h r3 (iI 56)).bind fun v4 =>
    if v4 ≤ x3 then
      (some x2)
    else
    if x2 = 0 then
      (some x2)
    else
    (gR h a0 4 0).bind fun r7 =>
    (aI 0 h r7 ((iI 57) + ((iI 3) * x3))).bind fun v8 =>
    (gR h a0 4 0).bind fun r9 =>
    (aI 0 h r9 (((iI 57) + ((iI 3) * x3)) + (iI 1))).bind fun v10 =>
    (fX4_heardIn h a0 v8 v10).bind fun v11 =>
    (fX4_bitsOf v11).bind fun v12 =>
    (gR h a0 4 0).bind fun r13 =>
    (aI 0 h r13 (((iI 57) + ((iI 3) * x3)) + (iI 2))).bind fun v14 =>
    fX4_isSo_L8 h a0 fu (if v12 = v14 then iI 1 else iI 0) (x3 + iI 1)
def fX4_isSo (h : Hp) (a0 : Nat) (x1 : Int32) : Option (Int32 × Hp) :=
  if ep_cls h a0 = some 4 then
    ((fX4_drivesBy h a0 x1).bind fun o1 =>
    (fX4_isSo_L8 o1.2 a0 FUEL o1.1 (iI 0)).bind fun o2 =>
    (ckZ o2).bind fun z =>
    some (z, o1.2))
  else none
def fX4_fits_L24 (a0 : Nat) (x1 : Int32) : Nat → Hp → Int32 → Int32 → Int32 → Option (Hp × Int32 × Int32)
  | 0, _, _, _, _ => none
  | fu + 1, h, x2, x3, x4 =>
    (fX4_droves h a0).bind fun v6 =>
    if v6 ≤ x4 then
      (some (h, x2, x3))
    else
    (fX4_isSo h a0 x4).bind fun o8 =>
    (
      if o8.1 = 0 then
        (some (x2, x3))
      else
      (
        if x1 = 0 then
          (some (iI (-4)))
        else
        (fX4_of o8.2 a0 (x1 - (iI 10)) (iI 2)).bind fun v13 =>
        some v13).bind fun o11 =>
      some ((x2 + iI 1), (x3 ||| (if o11 = (iI (-4)) then iI 0 else ((iI 1) <<< (o11 &&& 31)))))).bind fun o9 =>
    fX4_fits_L24 a0 x1 fu o8.2 o9.1 o9.2 (x4 + iI 1)
def fX4_fits (h : Hp) (a0 : Nat) (x1 : Int32) : Option (Int32 × Hp) :=
  if ep_cls h a0 = some 4 then
    (orL (
      if x1 = 0 then
        (some (.inr ()))
      else
      (fX4_isEcho h a0 (x1 - (iI 10))).bind fun v3 =>
      if v3 = 0 then
        (some (.inl (iI (-1), h)))
      else
      some (.inr ())) (fun r => some r) fun o1 =>
    (fX4_fits_L24 a0 x1 FUEL h (iI 0) (iI 0) (iI 0)).bind fun o5 =>
    if x1 = 0 then
      (some (o5.2.1, o5.1))
    else
    some (o5.2.2, o5.1))
  else none
def fX4_listen_L26 (a0 : Nat) (x1 : Int32) (x2 : Int32) (x3 : Int32) (x4 : Int32) : Nat → Hp → Int32 → Option (Hp)
  | 0, _, _ => none
  | fu + 1, h, x5 =>
    if (iI 186) ≤ x5 then
      (some h)
    else
    (gR h a0 4 26).bind fun r7 =>
    (aS 0 h r7 x5 (iI 0)).bind fun h8 =>
    fX4_listen_L26 a0 x1 x2 x3 x4 fu h8 (x5 + iI 1)
def fX4_listen_L75 (a0 : Nat) (x1 : Int32) (x2 : Int32) (x3 : Int32) (x4 : Int32) (x5 : Int32) : Nat → Hp → Int32 → Option (Hp)
  | 0, _, _ => none
  | fu + 1, h, x6 =>
    if (iI 30) < x6 then
      (some h)
    else
    (gR h a0 4 26).bind fun r17 =>
    (fX4_heardIn h a0 x1 x6).bind fun v18 =>
    (fX4_bitsOf v18).bind fun v19 =>
    (aI 0 h r17 (((iI 6) * x6) + v19)).bind fun v20 =>
    (aS 0 h r17 (((iI 6) * x6) + v19) (v20 + (iI 1))).bind fun h21 =>
    fX4_listen_L75 a0 x1 x2 x3 x4 x5 fu h21 (x6 + iI 1)
def fX4_listen_L135 (h : Hp) (a0 : Nat) (x2 : Int32) (x3 : Int32) (x4 : Int32) (x5 : Int32) : Nat → Int32 → Int32 → Option (Int32)
  | 0, _, _ => none
  | fu + 1, x6, x7 =>
    if (iI 5) < x7 then
      (some x6)
    else
    (gR h a0 4 26).bind fun r26 =>
    (aI 0 h r26 (((iI 6) * x5) + x7)).bind fun v27 =>
    (
      if v27 ≤ x6 then
        (some x6)
      else
      (gR h a0 4 26).bind fun r30 =>
      (aI 0 h r30 (((iI 6) * x5) + x7)).bind fun v31 =>
      some v31).bind fun o28 =>
    fX4_listen_L135 h a0 x2 x3 x4 x5 fu o28 (x7 + iI 1)
def fX4_listen_L51 (a0 : Nat) (x1 : Int32) (x2 : Int32) (x4 : Int32) : Nat → Hp → Int32 → Int32 → Option (Hp × Int32)
  | 0, _, _, _ => none
  | fu + 1, h, x3, x5 =>
    (fX4_droves h a0).bind fun v10 =>
    if v10 ≤ x5 then
      (some (h, x3))
    else
    (fX4_isSo h a0 x5).bind fun o12 =>
    (
      if o12.1 = 0 then
        (some (o12.2, x3))
      else
      (fX4_listen_L75 a0 x1 x2 (x3 + iI 1) x4 x5 FUEL o12.2 (iI 0)).bind fun o15 =>
      some (o15, (x3 + iI 1))).bind fun o13 =>
    fX4_listen_L51 a0 x1 x2 x4 fu o13.1 o13.2 (x5 + iI 1)
def fX4_listen_L122 (h : Hp) (a0 : Nat) (x2 : Int32) : Nat → Int32 → Int32 → Int32 → Option (Int32 × Int32)
  | 0, _, _, _ => none
  | fu + 1, x3, x4, x5 =>
    if (iI 30) < x5 then
      (some (x3, x4))
    else
    (fX4_listen_L135 h a0 x2 x3 x4 x5 FUEL (iI 0) (iI 0)).bind fun o24 =>
    fX4_listen_L122 h a0 x2 fu (if x3 ≤ o24 then x3 else o24) (if x3 ≤ o24 then x4 else x5) (x5 + iI 1)
def fX4_listen (h : Hp) (a0 : Nat) (x1 : Int32) (x2 : Int32) : Option (Int32 × Hp) :=
  if ep_cls h a0 = some 4 then
    ((fX4_isPen h a0 x1).bind fun v1 =>
    if v1 = 0 then
      (some (iI (-1), h))
    else
    (fX4_isPart x2).bind fun v3 =>
    if v3 = 0 then
      (some (iI (-1), h))
    else
    (fX4_listen_L26 a0 x1 x2 (iI 0) (iI (-4)) FUEL h (iI 0)).bind fun o5 =>
    (fX4_listen_L51 a0 x1 x2 (iI (-4)) FUEL o5 (iI 0) (iI 0)).bind fun o9 =>
    (fX4_listen_L122 o9.1 a0 x2 FUEL o9.2 (iI (-4)) (iI 0)).bind fun o22 =>
    if o22.2 = (iI (-4)) then
      (some (iI (-4), o9.1))
    else
    if x2 = 0 then
      (some (o22.2, o9.1))
    else
    some (o22.1, o9.1))
  else none
def fX4_allOf_L4 (h : Hp) (a0 : Nat) (x1 : Int32) : Nat → Int32 → Int32 → Option (Int32)
  | 0, _, _ => none
  | fu + 1, x2, x3 =>
    (gI h a0 4 4).bind fun v2 =>
    if v2 ≤ x3 then
      (some x2)
    else
    (fX4_isSold h a0 x3).bind fun v4 =>
    (
      if v4 = 0 then
        ((fX4_of h a0 x3 x1).bind fun v7 =>
        some v7)
      else
      some (iI 0)).bind fun o5 =>
    fX4_allOf_L4 h a0 x1 fu (x2 + o5) (x3 + iI 1)
def fX4_allOf (h : Hp) (a0 : Nat) (x1 : Int32) : Option (Int32) :=
  if ep_cls h a0 = some 4 then
    ((fX4_allOf_L4 h a0 x1 FUEL (iI 0) (iI 0)).bind fun o1 =>
    some o1)
  else none
def fX4_drift_L41 (a0 : Nat) (x2 : Int32) (x3 : Int32) : Nat → Hp → Int32 → Int32 → Option (Hp)
  | 0, _, _, _ => none
  | fu + 1, h, x4, x5 =>
    if x2 ≤ x5 then
      (some h)
    else
    (gI h a0 4 4).bind fun v10 =>
    (rmI ((((x4 * (1103515245 : Int32)) + (iI 12345)) >>> ((iI 16) &&& 31)) &&& (iI 32767)) v10).bind fun v11 =>
    (fX4_isSold h a0 v11).bind fun v12 =>
    (
      if v12 = 0 then
        ((fX4_losesLetter h a0 v11).bind fun o15 =>
        some o15)
      else
      some h).bind fun o13 =>
    (fX4_weekGoes o13 a0).bind fun o16 =>
    fX4_drift_L41 a0 x2 x3 fu o16 ((x4 * (1103515245 : Int32)) + (iI 12345)) (x5 + iI 1)
def fX4_drift (h : Hp) (a0 : Nat) (x1 : Int32) (x2 : Int32) (x3 : Int32) : Option (Int32 × Hp) :=
  if ep_cls h a0 = some 4 then
    ((fX4_in x2.toInt64 (lI 1) (30 : Int64)).bind fun v1 =>
    if v1 = 0 then
      (some (iI (-1), h))
    else
    (fX4_isPart x3).bind fun v3 =>
    if v3 = 0 then
      (some (iI (-1), h))
    else
    (gI h a0 4 4).bind fun v5 =>
    if v5 = 0 then
      (some (iI (-2), h))
    else
    (fX4_starts h a0).bind fun o7 =>
    (fX4_drift_L41 a0 x2 x3 FUEL o7 x1 (iI 0)).bind fun o8 =>
    (fX4_allOf o8 a0 (if x3 = 0 then iI 1 else iI 3)).bind fun v19 =>
    some (v19, o8))
  else none
def fX4_copies_L2 (a0 : Nat) (x1 : Int32) (x2 : Int32) : Nat → Hp → Int32 → Option (Hp)
  | 0, _, _ => none
  | fu + 1, h, x3 =>
    if (iI 75) ≤ x3 then
      (some h)
    else
    (gR h a0 4 0).bind fun r3 =>
    (gR h a0 4 0).bind fun r4 =>
    (aI 0 h r4 (x2 + x3)).bind fun v5 =>
    (aS 0 h r3 (x1 + x3) v5).bind fun h6 =>
    fX4_copies_L2 a0 x1 x2 fu h6 (x3 + iI 1)
def fX4_copies (h : Hp) (a0 : Nat) (x1 : Int32) (x2 : Int32) : Option (Hp) :=
  if ep_cls h a0 = some 4 then
    ((fX4_copies_L2 a0 x1 x2 FUEL h (iI 0)).bind fun o1 =>
    some o1)
  else none
def fX4_keep (h : Hp) (a0 : Nat) (x1 : Int32) : Option (Int32 × Hp) :=
  if ep_cls h a0 = some 4 then
    ((fX4_in x1.toInt64 (lI 0) (lI 1)).bind fun v1 =>
    if v1 = 0 then
      (some (iI (-1), h))
    else
    (gR h a0 4 2).bind fun r3 =>
    (aI 3 h r3 x1).bind fun v4 =>
    (fX4_flag v4).bind fun v5 =>
    (gR h a0 4 2).bind fun r6 =>
    (aS 3 h r6 x1 (iI 1)).bind fun h7 =>
    (fX4_copies h7 a0 ((iI 75) * (x1 + (iI 1))) (iI 0)).bind fun o8 =>
    some (v5, o8))
  else none
def fX4_back (h : Hp) (a0 : Nat) (x1 : Int32) : Option (Int32 × Hp) :=
  if ep_cls h a0 = some 4 then
    ((fX4_in x1.toInt64 (lI 0) (lI 1)).bind fun v1 =>
    if v1 = 0 then
      (some (iI (-1), h))
    else
    (gR h a0 4 2).bind fun r3 =>
    (aI 3 h r3 x1).bind fun v4 =>
    if v4 = 0 then
      (some (iI (-2), h))
    else
    (fX4_copies h a0 (iI 0) ((iI 75) * (x1 + (iI 1)))).bind fun o6 =>
    (gR o6 a0 4 0).bind fun r7 =>
    (aI 0 o6 r7 (iI 55)).bind fun v8 =>
    some (v8, o6))
  else none
def fX4_isSheet (x0 : Int32) (x1 : Int32) : Option (Int32) :=
  (fX4_in x0.toInt64 (lI 0) (3 : Int64)).bind fun v1 =>
  if v1 = 0 then
    (some (iI 0))
  else
  (fX4_in x1.toInt64 (lI 0) (2 : Int64)).bind fun v3 =>
  if v3 = 0 then
    (some (iI 0))
  else
  some (iI 1)
def fX4_sheet_L40 (a0 : Nat) (x1 : Int32) : Nat → Hp → Int32 → Option (Hp)
  | 0, _, _ => none
  | fu + 1, h, x4 =>
    if (iI 40) ≤ x4 then
      (some h)
    else
    (gR h a0 4 29).bind fun r11 =>
    (aS 0 h r11 (((iI 40) * x1) + x4) (iI 0)).bind fun h12 =>
    fX4_sheet_L40 a0 x1 fu h12 (x4 + iI 1)
def fX4_sheet (h : Hp) (a0 : Nat) (x1 : Int32) (x2 : Int32) (x3 : Int32) : Option (Int32 × Hp) :=
  if ep_cls h a0 = some 4 then
    ((fX4_isSheet x1 x2).bind fun v1 =>
    if v1 = 0 then
      (some (iI (-1), h))
    else
    if x3 ≤ (iI 40) then
      (if 0 ≤ x3 then
        ((gR h a0 4 27).bind fun r5 =>
        (aS 0 h r5 x1 x2).bind fun h6 =>
        (gR h6 a0 4 28).bind fun r7 =>
        (aS 0 h6 r7 x1 x3).bind fun h8 =>
        (fX4_sheet_L40 a0 x1 FUEL h8 (iI 0)).bind fun o9 =>
        some (iI 1, o9))
      else
      some (iI (-14), h))
    else
    some (iI (-1), h))
  else none
def fX4_lay (h : Hp) (a0 : Nat) (x1 : Int32) (x2 : Int32) (x3 : Int32) : Option (Int32 × Hp) :=
  if ep_cls h a0 = some 4 then
    ((fX4_isSheet x1 (iI 0)).bind fun v1 =>
    if v1 = 0 then
      (some (iI (-1), h))
    else
    (gR h a0 4 27).bind fun r3 =>
    (aI 0 h r3 x1).bind fun v4 =>
    if v4 = (iI (-4)) then
      (some (iI (-11), h))
    else
    (gR h a0 4 28).bind fun r6 =>
    (aI 0 h r6 x1).bind fun v7 =>
    (fX4_in x2.toInt64 (lI 0) ((v7 - (iI 1)).toInt64)).bind fun v8 =>
    if v8 = 0 then
      (some (iI (-12), h))
    else
    (gR h a0 4 29).bind fun r10 =>
    (gR h a0 4 27).bind fun r11 =>
    (aI 0 h r11 x1).bind fun v12 =>
    (
      if v12 = 0 then
        (some x3.toInt8.toInt32)
      else
      (gR h a0 4 27).bind fun r15 =>
      (aI 0 h r15 x1).bind fun v16 =>
      if v16 = (iI 1) then
        (some x3.toInt16.toInt32)
      else
      some x3).bind fun o13 =>
    (aS 0 h r10 (((iI 40) * x1) + x2) o13).bind fun h18 =>
    some (iI 1, h18))
  else none
def fX4_read_L26 (a0 : Nat) (x1 : Int32) (x2 : Int32) (x3 : Int32) (x4 : Int32) : Nat → Hp → Int32 → Option (Hp)
  | 0, _, _ => none
  | fu + 1, h, x5 =>
    if (iI 75) ≤ x5 then
      (some h)
    else
    (gR h a0 4 31).bind fun r7 =>
    (gR h a0 4 0).bind fun r8 =>
    (aI 0 h r8 x5).bind fun v9 =>
    (aS 0 h r7 x5 v9).bind fun h10 =>
    fX4_read_L26 a0 x1 x2 x3 x4 fu h10 (x5 + iI 1)
def fX4_read_L208 (a0 : Nat) (x7 : Int32) : Nat → Hp → Int32 → Option (Hp)
  | 0, _, _ => none
  | fu + 1, h, x9 =>
    if (iI 75) ≤ x9 then
      (some h)
    else
    (gR h a0 4 0).bind fun r38 =>
    (gR h a0 4 31).bind fun r39 =>
    (aI 0 h r39 x9).bind fun v40 =>
    (aS 0 h r38 x9 v40).bind fun h41 =>
    fX4_read_L208 a0 x7 fu h41 (x9 + iI 1)
def fX4_read_L77 (h : Hp) (a0 : Nat) (x1 : Int32) (x2 : Int32) (x3 : Int32) (x4 : Int32) (x6 : Int32) (x7 : Int32) : Nat → Int32 → Int32 → Option (Int32)
  | 0, _, _ => none
  | fu + 1, x5, x8 =>
    if (iI 2) ≤ x8 then
      (some x5)
    else
    if x5 = 0 then
      ((gR h a0 4 27).bind fun r17 =>
      (aI 0 h r17 x1).bind fun v18 =>
      (
        if v18 = (iI (-4)) then
          (some (iI 1))
        else
        (gR h a0 4 27).bind fun r21 =>
        (aI 0 h r21 x1).bind fun v22 =>
        if v22 = x2 then
          (if (lg_cmp ((x3.toInt64 + (((iI 2) * x7).toInt64)) + x8.toInt64) (lI 0)) < 0 then
            (some (iI 2))
          else
          (gR h a0 4 28).bind fun r25 =>
          (aI 0 h r25 x1).bind fun v26 =>
          if (lg_cmp ((x3.toInt64 + (((iI 2) * x7).toInt64)) + x8.toInt64) v26.toInt64) < 0 then
            (some (iI 0))
          else
          some (iI 2))
        else
        some (iI 3)).bind fun o19 =>
      fX4_read_L77 h a0 x1 x2 x3 x4 x6 x7 fu o19 (x8 + iI 1))
    else
    some x5
def fX4_read_L62 (a0 : Nat) (x1 : Int32) (x2 : Int32) (x3 : Int32) (x4 : Int32) : Nat → Hp → Int32 → Int32 → Int32 → Option ((Int32 × Hp) ⊕ (Hp × Int32 × Int32))
  | 0, _, _, _, _ => none
  | fu + 1, h, x5, x6, x7 =>
    if x4 ≤ x7 then
      (some (.inr (h, x5, x6)))
    else
    if x5 = 0 then
      ((fX4_read_L77 h a0 x1 x2 x3 x4 x6 x7 FUEL x5 (iI 0)).bind fun o14 =>
      orL (
        if o14 = 0 then
          ((gR h a0 4 29).bind fun r30 =>
          (aI 0 h r30 ((((iI 40) * x1) + x3) + ((iI 2) * x7))).bind fun v31 =>
          (gR h a0 4 29).bind fun r32 =>
          (aI 0 h r32 (((((iI 40) * x1) + x3) + ((iI 2) * x7)) + (iI 1))).bind fun v33 =>
          (fX4_drive h a0 v31 v33).bind fun o34 =>
          if 0 ≤ o34.1 then
            (some (.inr (o34.2, (x6 + iI 1))))
          else
          (fX4_read_L208 a0 x7 FUEL o34.2 (iI 0)).bind fun o36 =>
          some (.inl (((iI (-20)) - x7), o36)))
        else
        some (.inr (h, x6))) (fun r => some (.inl r)) fun o28 =>
      fX4_read_L62 a0 x1 x2 x3 x4 fu o28.1 o14 o28.2 (x7 + iI 1))
    else
    some (.inr (h, x5, x6))
def fX4_read (h : Hp) (a0 : Nat) (x1 : Int32) (x2 : Int32) (x3 : Int32) (x4 : Int32) : Option (Int32 × Hp) :=
  if ep_cls h a0 = some 4 then
    ((fX4_isSheet x1 x2).bind fun v1 =>
    if v1 = 0 then
      (some (iI (-1), h))
    else
    (fX4_in x4.toInt64 (lI 0) (20 : Int64)).bind fun v3 =>
    if v3 = 0 then
      (some (iI (-1), h))
    else
    (fX4_read_L26 a0 x1 x2 x3 x4 FUEL h (iI 0)).bind fun o5 =>
    orL (fX4_read_L62 a0 x1 x2 x3 x4 FUEL o5 (iI 0) (iI 0) (iI 0)) (fun r => some r) fun o11 =>
    (pF o11.1 a0 4 30 (.int o11.2.1)).bind fun h42 =>
    some (o11.2.2, h42))
  else none
def fX4_torn (h : Hp) (a0 : Nat) : Option (Int32) :=
  if ep_cls h a0 = some 4 then
    ((gI h a0 4 30).bind fun v1 =>
    some v1)
  else none
def fX4_count (h : Hp) (a0 : Nat) (x1 : Int32) : Option (Int32 × Hp) :=
  if ep_cls h a0 = some 4 then
    ((fX4_starts h a0).bind fun o1 =>
    if x1 = iI 0 then
      ((fX4_allOf o1 a0 (iI 3)).bind fun v8 =>
      some (v8, o1))
    else
    if x1 = iI 1 then
      ((fX4_allOf o1 a0 (iI 1)).bind fun v9 =>
      some (v9, o1))
    else
    if x1 = iI 2 then
      ((gR o1 a0 4 0).bind fun r10 =>
      (aI 0 o1 r10 (iI 56)).bind fun v11 =>
      some (v11, o1))
    else
    if x1 = iI 3 then
      ((gR o1 a0 4 2).bind fun r12 =>
      (aI 3 o1 r12 (iI 0)).bind fun v13 =>
      (fX4_flag v13).bind fun v14 =>
      (gR o1 a0 4 2).bind fun r15 =>
      (aI 3 o1 r15 (iI 1)).bind fun v16 =>
      (fX4_flag v16).bind fun v17 =>
      some ((v14 + v17), o1))
    else
    if x1 = iI 4 then
      ((gI o1 a0 4 14).bind fun v18 =>
      some (v18, o1))
    else
    if x1 = iI 5 then
      ((gR o1 a0 4 27).bind fun r19 =>
      (aI 0 o1 r19 (iI 0)).bind fun v20 =>
      if v20 = (iI (-4)) then
        (some (iI (-4), o1))
      else
      (gR o1 a0 4 28).bind fun r22 =>
      (aI 0 o1 r22 (iI 0)).bind fun v23 =>
      some (v23, o1))
    else
    some (iI (-1), o1))
  else none
