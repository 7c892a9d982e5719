/-! ===== rows as the printed walks name them ===== -/
set_option maxRecDepth 100000
def dvI (x y : Int32) : Option Int32 := if y = 0 then none else some (x / y)
def rmI (x y : Int32) : Option Int32 := if y = 0 then none else some (x - x / y * y)
def dvL (x y : Int64) : Option Int64 := if y = 0 then none else some (x / y)
def rmL (x y : Int64) : Option Int64 := if y = 0 then none else some (x - x / y * y)
theorem dv_s {α : Type} {c : Prop} [Decidable c] {a v : α} (e : (if c then none else some a) = some v) : ¬ c ∧ v = a := by
  by_cases h : c
  · rw [if_pos h] at e; cases e
  · rw [if_neg h] at e; exact ⟨h, (Option.some.inj e).symm⟩
/-- a run that may end the method, or go on -/
def orL {ρ σ τ : Type} (x : Option (ρ ⊕ σ)) (k1 : ρ → Option τ) (k2 : σ → Option τ) : Option τ := match x with
  | none => none
  | some (.inl r) => k1 r
  | some (.inr o) => k2 o
theorem orL_s {ρ σ τ : Type} {x : Option (ρ ⊕ σ)} {k1 : ρ → Option τ} {k2 : σ → Option τ} {t : τ} (e : orL x k1 k2 = some t) : ∃ o, x = some o ∧ orL (some o) k1 k2 = some t := by
  cases x with
  | none => cases e
  | some o => exact ⟨o, rfl, e⟩
theorem orL_1 {ρ σ τ : Type} {o : ρ ⊕ σ} {k1 : ρ → Option τ} {k2 : σ → Option τ} {t : τ} {r : ρ} (e : orL (some o) k1 k2 = some t) (h : o = .inl r) : k1 r = some t := by subst h; exact e
theorem orL_2 {ρ σ τ : Type} {o : ρ ⊕ σ} {k1 : ρ → Option τ} {k2 : σ → Option τ} {t : τ} {r : σ} (e : orL (some o) k1 k2 = some t) (h : o = .inr r) : k2 r = some t := by subst h; exact e
theorem iI_toInt {z : Int} (h1 : -2147483648 ≤ z) (h2 : z < 2147483648) : (iI z).toInt = z := Int32.toInt_ofInt_of_le (by simpa using h1) (by simpa using h2)
theorem iI_of (x : Int32) : x = iI x.toInt := by simp [iI]
theorem ep_swIn {x : Int32} {k : Int} (e : x = iI k) (hk : 0 ≤ k ∧ k < 1000) : x.toInt = k := by rw [e]; exact iI_toInt (by omega) (by omega)
theorem ep_swOut {x : Int32} {n : Nat} (hn : n ≤ 1000) (h : ∀ k : Nat, k < n → ¬ x = iI k) {m : Int} (hm : m = n - 1 := by decide) : x.toInt < 0 ∨ m < x.toInt := by
  by_cases h0 : x.toInt < 0
  · exact Or.inl h0
  · by_cases h1 : m < x.toInt
    · exact Or.inr h1
    · refine absurd ?_ (h x.toInt.toNat (by omega))
      rw [Int.toNat_of_nonneg (by omega)]
      exact iI_of x
def aLn (t : Nat) (h : Hp) (a : Nat) : Option Int32 := match h.2 a with
  | some (.inl (u, n, _)) => if u = t then some (Int32.ofNat n) else none
  | some (.inr (.inl (u, n, _))) => if u = t then some (Int32.ofNat n) else none
  | _ => none
/-- an int that is a char -/
def ckC (r : Int32) : Option Int32 := if narrow .char (.int r) = .int r then some r else none
theorem ckC_s {r x : Int32} (e : ckC r = some x) : x = r ∧ narrow .char (.int r) = .int r := by
  unfold ckC at e
  split at e
  · rename_i hc
    cases e
    exact ⟨rfl, hc⟩
  · cases e
def ckB (r : Int32) : Option Int32 := if narrow .byte (.int r) = .int r then some r else none
theorem ckB_s {r x : Int32} (e : ckB r = some x) : x = r ∧ narrow .byte (.int r) = .int r := by
  unfold ckB at e
  split at e
  · rename_i hc
    cases e
    exact ⟨rfl, hc⟩
  · cases e
section EPR3
variable {p : Program} {l : Launch} {e : Env} {R : Room} {s : State} {m : MethodId} {args : Array Value} {below : List Frame} {meth : Method} {c : Code} {H : Heap} {locs : List Loc} {cells slots : Nat} {Q : State → Prop}
variable {cc : ByteArray} {pc : Nat} {ls : Array Slot} {rest : List Value} {G : EG} {cl : List vw_C} {a : Nat} {h h' : Hp}
theorem ep_idiv (hexec : p.tables.exec = Jvm.exec) (hb : c.code = cc) {x y v : Int32} (hv : dvI x y = some v) (hdg : decode cc pc = .ok (.idiv, 1)) (k : W p l e R s m args below meth c H locs cells slots Q (F0 m (pc + 1) ls (.int v :: rest))) : W p l e R s m args below meth c H locs cells slots Q (F0 m pc ls (.int y :: .int x :: rest)) := by
  obtain ⟨h1, rfl⟩ := dv_s hv
  exact lv_idiv hexec hb hdg h1 k
theorem ep_irem (hexec : p.tables.exec = Jvm.exec) (hb : c.code = cc) {x y v : Int32} (hv : rmI x y = some v) (hdg : decode cc pc = .ok (.irem, 1)) (k : W p l e R s m args below meth c H locs cells slots Q (F0 m (pc + 1) ls (.int v :: rest))) : W p l e R s m args below meth c H locs cells slots Q (F0 m pc ls (.int y :: .int x :: rest)) := by
  obtain ⟨h1, rfl⟩ := dv_s hv
  exact lv_irem hexec hb hdg h1 k
theorem ep_ldiv (hexec : p.tables.exec = Jvm.exec) (hb : c.code = cc) {x y v : Int64} (hv : dvL x y = some v) (hdg : decode cc pc = .ok (.ldiv, 1)) (k : W p l e R s m args below meth c H locs cells slots Q (F0 m (pc + 1) ls (.long v :: rest))) : W p l e R s m args below meth c H locs cells slots Q (F0 m pc ls (.long y :: .long x :: rest)) := by
  obtain ⟨h1, rfl⟩ := dv_s hv
  exact lv_ldiv hexec hb hdg h1 k
theorem ep_lrem (hexec : p.tables.exec = Jvm.exec) (hb : c.code = cc) {x y v : Int64} (hv : rmL x y = some v) (hdg : decode cc pc = .ok (.lrem, 1)) (k : W p l e R s m args below meth c H locs cells slots Q (F0 m (pc + 1) ls (.long v :: rest))) : W p l e R s m args below meth c H locs cells slots Q (F0 m pc ls (.long y :: .long x :: rest)) := by
  obtain ⟨h1, rfl⟩ := dv_s hv
  exact lv_lrem hexec hb hdg h1 k
theorem ep_alenT (t : Nat) (ht : t < 12) (hexec : p.tables.exec = Jvm.exec) (hb : c.code = cc) (hK : ep_K G cl s) (hw : ep_W G cl h s H locs) {x : Int32} (hv : aLn t h a = some x) (hdg : decode cc pc = .ok (.arraylength, 1))
    (kk : W p l e R s m args below meth c H locs cells slots Q (F0 m (pc + 1) ls (.int x :: rest))) : W p l e R s m args below meth c H locs cells slots Q (F0 m pc ls (.ref a :: rest)) := by
  unfold aLn at hv
  split at hv
  · rename_i u n f ho
    split at hv
    · rename_i hu
      subst hu
      exact ep_alen u ht hexec hb hK hw ho (Or.inl ⟨n, f, rfl⟩) (by simpa [aLen, ho] using hv) hdg kk
    · cases hv
  · rename_i u n f ho
    split at hv
    · rename_i hu
      subst hu
      exact ep_alen u ht hexec hb hK hw ho (Or.inr ⟨n, f, rfl⟩) (by simpa [aLen, ho] using hv) hdg kk
    · cases hv
  · cases hv
theorem ep_calli0 {st0 : List Value} {av : Array Value} {r : Int32} (hr : va_Run p l e R s m args below meth c H locs cells slots 0 0 (F0 m pc ls st0) rest (ep_Qi G cl h' r av) (ep_A G)) (hw : ep_W G cl h s H locs)
    (kk : ∀ (H1 : Heap) (locs1 : List Loc), ep_W G cl h' s H1 locs1 → W p l e R s m args below meth c H1 locs1 cells slots Q (F0 m (pc + 3) ls (.int r :: rest))) : W p l e R s m args below meth c H locs cells slots Q (F0 m pc ls st0) := ep_calli hr hw kk
theorem ep_calll0 {st0 : List Value} {av : Array Value} {r : Int64} (hr : va_Run p l e R s m args below meth c H locs cells slots 0 0 (F0 m pc ls st0) rest (ep_Ql G cl h' r av) (ep_A G)) (hw : ep_W G cl h s H locs)
    (kk : ∀ (H1 : Heap) (locs1 : List Loc), ep_W G cl h' s H1 locs1 → W p l e R s m args below meth c H1 locs1 cells slots Q (F0 m (pc + 3) ls (.long r :: rest))) : W p l e R s m args below meth c H locs cells slots Q (F0 m pc ls st0) := ep_calll hr hw kk
theorem ep_callv0 {st0 : List Value} {av : Array Value} (hr : va_Run p l e R s m args below meth c H locs cells slots 0 0 (F0 m pc ls st0) rest (ep_Qv G cl h' av) (ep_A G)) (hw : ep_W G cl h s H locs)
    (kk : ∀ (H1 : Heap) (locs1 : List Loc), ep_W G cl h' s H1 locs1 → W p l e R s m args below meth c H1 locs1 cells slots Q (F0 m (pc + 3) ls rest)) : W p l e R s m args below meth c H locs cells slots Q (F0 m pc ls st0) := ep_callv hr hw kk
theorem ep_callr0 {st0 : List Value} {av : Array Value} {r : Nat} (hr : va_Run p l e R s m args below meth c H locs cells slots 0 0 (F0 m pc ls st0) rest (ep_Qr G cl h' r av) (ep_A G)) (hw : ep_W G cl h s H locs)
    (kk : ∀ (H1 : Heap) (locs1 : List Loc), ep_W G cl h' s H1 locs1 → W p l e R s m args below meth c H1 locs1 cells slots Q (F0 m (pc + 3) ls (.ref r :: rest))) : W p l e R s m args below meth c H locs cells slots Q (F0 m pc ls st0) := ep_callr hr hw kk
theorem ep_retiR {v res : Int32} (hexec : p.tables.exec = Jvm.exec) (hb : c.code = cc) (hr : meth.sig.returnType = some .int) (hlocks : meth.locks = false) (hw : ep_W G cl h s H locs) (hf : some v = some res) (hdg : decode cc pc = .ok (.ireturn, 1)) : W p l e R s m args below meth c H locs cells slots (MQ below (ep_Qi G cl h res) args s cells slots (ep_A G)) (F0 m pc ls [.int v]) := by
  cases hf; exact W.iret hexec hb hr (fun t ht _ => ⟨⟨v, (), rfl, rfl, by show ep_R G cl h t.heap; rw [ht]; exact hw.1⟩, hw.2.F ht⟩) hw.2.2.2 hdg hlocks
theorem ep_retzR {v res : Int32} {ty : FieldType} (hexec : p.tables.exec = Jvm.exec) (hb : c.code = cc) (hr : meth.sig.returnType = some ty) (hn : narrow ty (.int v) = .int v) (hlocks : meth.locks = false) (hw : ep_W G cl h s H locs) (hf : some v = some res) (hdg : decode cc pc = .ok (.ireturn, 1)) : W p l e R s m args below meth c H locs cells slots (MQ below (ep_Qi G cl h res) args s cells slots (ep_A G)) (F0 m pc ls [.int v]) := by
  cases hf; exact W.zret hexec hb hr hn (fun t ht _ => ⟨⟨v, (), rfl, rfl, by show ep_R G cl h t.heap; rw [ht]; exact hw.1⟩, hw.2.F ht⟩) hw.2.2.2 hdg hlocks
theorem ep_retlR {v res : Int64} (hexec : p.tables.exec = Jvm.exec) (hb : c.code = cc) (hr : meth.sig.returnType = some .long) (hlocks : meth.locks = false) (hw : ep_W G cl h s H locs) (hf : some v = some res) (hdg : decode cc pc = .ok (.lreturn, 1)) : W p l e R s m args below meth c H locs cells slots (MQ below (ep_Ql G cl h res) args s cells slots (ep_A G)) (F0 m pc ls [.long v]) := by
  cases hf; exact W.lret hexec hb hr (fun t ht _ => ⟨⟨v, (), rfl, rfl, by show ep_R G cl h t.heap; rw [ht]; exact hw.1⟩, hw.2.F ht⟩) hw.2.2.2 hdg hlocks
theorem ep_retvR {res : Unit} (hexec : p.tables.exec = Jvm.exec) (hb : c.code = cc) (hr : meth.sig.returnType = none) (hlocks : meth.locks = false) (hw : ep_W G cl h s H locs) (hf : some () = some res) (hdg : decode cc pc = .ok (.return_, 1)) : W p l e R s m args below meth c H locs cells slots (MQ below (ep_Qv G cl h) args s cells slots (ep_A G)) (F0 m pc ls []) :=
  W.vret hexec hb hr (fun t ht _ => ⟨⟨(), rfl, trivial, by show ep_R G cl h t.heap; rw [ht]; exact hw.1⟩, hw.2.F ht⟩) hw.2.2.2 hdg hlocks
theorem ep_retiW {v : Int32} {res : Int32 × Hp} (hexec : p.tables.exec = Jvm.exec) (hb : c.code = cc) (hr : meth.sig.returnType = some .int) (hlocks : meth.locks = false) (hw : ep_W G cl h s H locs) (hf : some (v, h) = some res) (hdg : decode cc pc = .ok (.ireturn, 1)) : W p l e R s m args below meth c H locs cells slots (MQ below (ep_Qi G cl res.2 res.1) args s cells slots (ep_A G)) (F0 m pc ls [.int v]) := by
  cases hf; exact W.iret hexec hb hr (fun t ht _ => ⟨⟨v, (), rfl, rfl, by show ep_R G cl h t.heap; rw [ht]; exact hw.1⟩, hw.2.F ht⟩) hw.2.2.2 hdg hlocks
theorem ep_retzW {v : Int32} {res : Int32 × Hp} {ty : FieldType} (hexec : p.tables.exec = Jvm.exec) (hb : c.code = cc) (hr : meth.sig.returnType = some ty) (hn : narrow ty (.int v) = .int v) (hlocks : meth.locks = false) (hw : ep_W G cl h s H locs) (hf : some (v, h) = some res) (hdg : decode cc pc = .ok (.ireturn, 1)) : W p l e R s m args below meth c H locs cells slots (MQ below (ep_Qi G cl res.2 res.1) args s cells slots (ep_A G)) (F0 m pc ls [.int v]) := by
  cases hf; exact W.zret hexec hb hr hn (fun t ht _ => ⟨⟨v, (), rfl, rfl, by show ep_R G cl h t.heap; rw [ht]; exact hw.1⟩, hw.2.F ht⟩) hw.2.2.2 hdg hlocks
theorem ep_retlW {v : Int64} {res : Int64 × Hp} (hexec : p.tables.exec = Jvm.exec) (hb : c.code = cc) (hr : meth.sig.returnType = some .long) (hlocks : meth.locks = false) (hw : ep_W G cl h s H locs) (hf : some (v, h) = some res) (hdg : decode cc pc = .ok (.lreturn, 1)) : W p l e R s m args below meth c H locs cells slots (MQ below (ep_Ql G cl res.2 res.1) args s cells slots (ep_A G)) (F0 m pc ls [.long v]) := by
  cases hf; exact W.lret hexec hb hr (fun t ht _ => ⟨⟨v, (), rfl, rfl, by show ep_R G cl h t.heap; rw [ht]; exact hw.1⟩, hw.2.F ht⟩) hw.2.2.2 hdg hlocks
theorem ep_retvW {res : Hp} (hexec : p.tables.exec = Jvm.exec) (hb : c.code = cc) (hr : meth.sig.returnType = none) (hlocks : meth.locks = false) (hw : ep_W G cl h s H locs) (hf : some h = some res) (hdg : decode cc pc = .ok (.return_, 1)) : W p l e R s m args below meth c H locs cells slots (MQ below (ep_Qv G cl res) args s cells slots (ep_A G)) (F0 m pc ls []) := by
  cases hf; exact W.vret hexec hb hr (fun t ht _ => ⟨⟨(), rfl, trivial, by show ep_R G cl h t.heap; rw [ht]; exact hw.1⟩, hw.2.F ht⟩) hw.2.2.2 hdg hlocks
end EPR3
