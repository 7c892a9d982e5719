/-! ===== the abstract heap: size, and a map from addresses to cells. Ob: array of ints (tag, length, contents), array of references, object (number of its class, fields) ===== -/
set_option maxRecDepth 100000
abbrev Ob : Type := (Nat × Nat × (Nat → Int32)) ⊕ (Nat × Nat × (Nat → Option Nat)) ⊕ (Nat × List Value)
abbrev Hp : Type := Nat × (Nat → Option Ob)
/-- classes and slots, array classes, base, addresses of what was there before -/
abbrev EG : Type := va_G × (Nat → ClassId) × Nat × (Nat → Nat)
def ep_ty (t : Nat) : FieldType := match t with
  | 0 => .int
  | 1 => .byte
  | 2 => .short
  | 3 => .boolean
  | 4 => .array .byte
  | 5 => .array .int
  | 6 => .object "EchoPens$Order"
  | 7 => .object "EchoPens$Image"
  | 8 => .object "EchoPens$Sheet"
  | 9 => .byte
  | 10 => .object "java/lang/String"
  | _ => .byte
def ep_wr (o : Ob) : Prop := match o with
  | .inl q => q.1 < 9
  | .inr (.inl q) => q.1 < 9
  | .inr (.inr q) => q.1 < 8
def ep_E (G : EG) (o : Ob) : va_E := match o with
  | .inl (t, n, f) => .inl (G.2.1 t, n, .inl f)
  | .inr (.inl (t, n, f)) => .inl (G.2.1 t, n, .inr (.inr (.inr (.inr f))))
  | .inr (.inr (ci, fs)) => .inr (ci, fs)
def ep_A (G : EG) : Nat → Prop := fun q => G.2.2.1 ≤ q
/-- the heap holds the abstract one -/
def ep_R (G : EG) (cl : List vw_C) (h : Hp) (H : Heap) : Prop := H.size = h.1 ∧ G.2.2.1 ≤ h.1 ∧ ∀ (a : Nat) (o : Ob), h.2 a = some o → va_at G.1 cl (a, ep_E G o) H ∧ (ep_wr o → G.2.2.1 ≤ a)
def ep_set (h : Hp) (a : Nat) (o : Ob) : Hp := (h.1, va_up h.2 a (some o))
def ep_push (h : Hp) (o : Ob) : Hp := (h.1 + 1, va_up h.2 h.1 (some o))
theorem ep_R.set {G : EG} {cl : List vw_C} {h : Hp} {H H1 : Heap} {a : Nat} {o : Ob} (hR : ep_R G cl h H) (hw : ep_wr o → G.2.2.1 ≤ a) (e : va_at G.1 cl (a, ep_E G o) H1) (z : H1.size = H.size) (oq : ∀ q : Nat, q ≠ a → H1[q]? = H[q]?) : ep_R G cl (ep_set h a o) H1 := by
  refine ⟨z.trans hR.1, hR.2.1, fun b o' hb => ?_⟩
  by_cases hb' : b = a
  · subst hb'
    have : o = o' := by simpa [ep_set, va_up] using hb
    subst this
    exact ⟨e, hw⟩
  · have h2 : h.2 b = some o' := by simpa [ep_set, va_up, hb'] using hb
    exact ⟨(hR.2.2 b o' h2).1.kept (oq b hb'), (hR.2.2 b o' h2).2⟩
theorem ep_R.push {G : EG} {cl : List vw_C} {h : Hp} {H H1 : Heap} {o : Ob} (hR : ep_R G cl h H) (e : va_at G.1 cl (h.1, ep_E G o) H1) (z : H1.size = H.size + 1) (oq : ∀ q : Nat, q < H.size → H1[q]? = H[q]?) : ep_R G cl (ep_push h o) H1 := by
  have hs := hR.1
  refine ⟨by rw [z, hs]; rfl, Nat.le_succ_of_le hR.2.1, fun b o' hb => ?_⟩
  by_cases hb' : b = h.1
  · subst hb'
    have : o = o' := by simpa [ep_push, va_up] using hb
    subst this
    exact ⟨e, fun _ => hR.2.1⟩
  · have h2 : h.2 b = some o' := by simpa [ep_push, va_up, hb'] using hb
    have hlt : b < H.size := (hR.2.2 b o' h2).1.lt
    exact ⟨(hR.2.2 b o' h2).1.kept (oq b hlt), (hR.2.2 b o' h2).2⟩
/-- class of the object at an address -/
def ep_cls (h : Hp) (a : Nat) : Option Nat := match h.2 a with
  | some (.inr (.inr q)) => some q.1
  | _ => none
def ep_fld (h : Hp) (a ci k : Nat) : Option Value := match h.2 a with
  | some (.inr (.inr (c, fs))) => if c = ci then fs[k]? else none
  | _ => none
def gI (h : Hp) (a ci k : Nat) : Option Int32 := match ep_fld h a ci k with
  | some (.int x) => some x
  | _ => none
def gL (h : Hp) (a ci k : Nat) : Option Int64 := match ep_fld h a ci k with
  | some (.long x) => some x
  | _ => none
def gR (h : Hp) (a ci k : Nat) : Option Nat := match ep_fld h a ci k with
  | some (.ref x) => some x
  | _ => none
/-- a reference or null -/
def gQ (h : Hp) (a ci k : Nat) : Option (Option Nat) := match ep_fld h a ci k with
  | some (.ref x) => some (some x)
  | some .null => some none
  | _ => none
theorem gI_f {h : Hp} {a ci k : Nat} {x : Int32} (e : gI h a ci k = some x) : ep_fld h a ci k = some (.int x) := by
  unfold gI at e
  split at e
  · rename_i y hy; cases e; exact hy
  · cases e
theorem gL_f {h : Hp} {a ci k : Nat} {x : Int64} (e : gL h a ci k = some x) : ep_fld h a ci k = some (.long x) := by
  unfold gL at e
  split at e
  · rename_i y hy; cases e; exact hy
  · cases e
theorem gR_f {h : Hp} {a ci k : Nat} {x : Nat} (e : gR h a ci k = some x) : ep_fld h a ci k = some (.ref x) := by
  unfold gR at e
  split at e
  · rename_i y hy; cases e; exact hy
  · cases e
theorem gQ_f {h : Hp} {a ci k : Nat} {x : Option Nat} (e : gQ h a ci k = some x) : ep_fld h a ci k = some (va_rf x) := by
  unfold gQ at e
  split at e
  · rename_i y hy; cases e; exact hy
  · rename_i hy; cases e; exact hy
  · cases e
theorem ep_fld_s {h : Hp} {a ci k : Nat} {v : Value} (e : ep_fld h a ci k = some v) : ∃ fs : List Value, h.2 a = some (.inr (.inr (ci, fs))) ∧ fs[k]? = some v := by
  unfold ep_fld at e
  split at e
  · rename_i c fs hy
    split at e
    · rename_i hc; subst hc; exact ⟨fs, hy, e⟩
    · cases e
  · cases e
theorem ep_cls_s {h : Hp} {a ci : Nat} (e : ep_cls h a = some ci) : ∃ fs : List Value, h.2 a = some (.inr (.inr (ci, fs))) := by
  unfold ep_cls at e
  split at e
  · rename_i q hy
    cases e
    exact ⟨q.2, hy⟩
  · cases e
def pF (h : Hp) (a ci k : Nat) (v : Value) : Option Hp := match h.2 a with
  | some (.inr (.inr (c, fs))) => if c = ci ∧ k < fs.length then some (ep_set h a (.inr (.inr (ci, fs.set k v)))) else none
  | _ => none
theorem pF_s {h h' : Hp} {a ci k : Nat} {v : Value} (e : pF h a ci k v = some h') : ∃ fs : List Value, h.2 a = some (.inr (.inr (ci, fs))) ∧ k < fs.length ∧ h' = ep_set h a (.inr (.inr (ci, fs.set k v))) := by
  unfold pF at e
  split at e
  · rename_i c fs hy
    split at e
    · rename_i hc
      obtain ⟨hc, hk⟩ := hc
      subst hc
      cases e
      exact ⟨fs, hy, hk, rfl⟩
    · cases e
  · cases e
def aI (t : Nat) (h : Hp) (a : Nat) (i : Int32) : Option Int32 := match h.2 a with
  | some (.inl (u, n, f)) => if u = t ∧ ¬ i < 0 ∧ i.toNatClampNeg < n then some (f i.toNatClampNeg) else none
  | _ => none
def aS (t : Nat) (h : Hp) (a : Nat) (i x : Int32) : Option Hp := match h.2 a with
  | some (.inl (u, n, f)) => if u = t ∧ ¬ i < 0 ∧ i.toNatClampNeg < n then some (ep_set h a (.inl (t, n, upd f i.toNatClampNeg x))) else none
  | _ => none
def aQ (t : Nat) (h : Hp) (a : Nat) (i : Int32) : Option Nat := match h.2 a with
  | some (.inr (.inl (u, n, f))) => if u = t ∧ ¬ i < 0 ∧ i.toNatClampNeg < n then f i.toNatClampNeg else none
  | _ => none
def aLen (h : Hp) (a : Nat) : Option Int32 := match h.2 a with
  | some (.inl (_, n, _)) => some (Int32.ofNat n)
  | some (.inr (.inl (_, n, _))) => some (Int32.ofNat n)
  | _ => none
theorem aI_s {t : Nat} {h : Hp} {a : Nat} {i x : Int32} (e : aI t h a i = some x) : ∃ (n : Nat) (f : Nat → Int32), h.2 a = some (.inl (t, n, f)) ∧ vp_in i n ∧ x = f i.toNatClampNeg := by
  unfold aI at e
  split at e
  · rename_i u n f hy
    split at e
    · rename_i hc
      obtain ⟨hc, h1, h2⟩ := hc
      subst hc
      cases e
      exact ⟨n, f, hy, fun q => q.elim h1 (fun z => absurd h2 (Nat.not_lt.mpr z)), rfl⟩
    · cases e
  · cases e
theorem aS_s {t : Nat} {h h' : Hp} {a : Nat} {i x : Int32} (e : aS t h a i x = some h') : ∃ (n : Nat) (f : Nat → Int32), h.2 a = some (.inl (t, n, f)) ∧ vp_in i n ∧ h' = ep_set h a (.inl (t, n, upd f i.toNatClampNeg x)) := by
  unfold aS at e
  split at e
  · rename_i u n f hy
    split at e
    · rename_i hc
      obtain ⟨hc, h1, h2⟩ := hc
      subst hc
      cases e
      exact ⟨n, f, hy, fun q => q.elim h1 (fun z => absurd h2 (Nat.not_lt.mpr z)), rfl⟩
    · cases e
  · cases e
theorem aQ_s {t : Nat} {h : Hp} {a : Nat} {i : Int32} {x : Nat} (e : aQ t h a i = some x) : ∃ (n : Nat) (f : Nat → Option Nat), h.2 a = some (.inr (.inl (t, n, f))) ∧ vp_in i n ∧ f i.toNatClampNeg = some x := by
  unfold aQ at e
  split at e
  · rename_i u n f hy
    split at e
    · rename_i hc
      obtain ⟨hc, h1, h2⟩ := hc
      subst hc
      exact ⟨n, f, hy, fun q => q.elim h1 (fun z => absurd h2 (Nat.not_lt.mpr z)), e⟩
    · cases e
  · cases e
/-- a run of one array into another of the same kind -/
def cpA (t : Nat) (h : Hp) (a0 : Nat) (sp : Int32) (a : Nat) (dp n : Int32) : Option Hp := match h.2 a0, h.2 a with
  | some (.inl (t0, n0, f)), some (.inl (t1, n1, g)) => if t0 = t ∧ t1 = t ∧ ¬ sp < 0 ∧ ¬ dp < 0 ∧ ¬ n < 0 ∧ sp.toNatClampNeg + n.toNatClampNeg ≤ n0 ∧ dp.toNatClampNeg + n.toNatClampNeg ≤ n1 ∧ (List.range n.toNatClampNeg).all (fun i => fits (ep_ty t) (.int (f (sp.toNatClampNeg + i)))) = true then some (ep_set h a (.inl (t, n1, va_cpy f g sp.toNatClampNeg dp.toNatClampNeg n.toNatClampNeg))) else none
  | _, _ => none
theorem cpA_s {t : Nat} {h h' : Hp} {a0 a : Nat} {sp dp n : Int32} (e : cpA t h a0 sp a dp n = some h') : ∃ (n0 n1 : Nat) (f g : Nat → Int32), h.2 a0 = some (.inl (t, n0, f)) ∧ h.2 a = some (.inl (t, n1, g)) ∧ ¬ sp < 0 ∧ ¬ dp < 0 ∧ ¬ n < 0 ∧ sp.toNatClampNeg + n.toNatClampNeg ≤ n0 ∧ dp.toNatClampNeg + n.toNatClampNeg ≤ n1 ∧ (∀ i, i < n.toNatClampNeg → fits (ep_ty t) (.int (f (sp.toNatClampNeg + i))) = true) ∧ h' = ep_set h a (.inl (t, n1, va_cpy f g sp.toNatClampNeg dp.toNatClampNeg n.toNatClampNeg)) := by
  unfold cpA at e
  split at e
  · rename_i t0 n0 f t1 n1 g h0 h1
    split at e
    · rename_i hc
      obtain ⟨c1, c2, c3, c4, c5, c6, c7, c8⟩ := hc
      subst c1
      subst c2
      cases e
      exact ⟨n0, n1, f, g, h0, h1, c3, c4, c5, c6, c7, fun i hi => List.all_eq_true.mp c8 i (List.mem_range.mpr hi), rfl⟩
    · cases e
  · cases e
/-- an int that is a truth value -/
def ckZ (r : Int32) : Option Int32 := if r = 0 ∨ r = 1 then some r else none
theorem ckZ_s {r x : Int32} (e : ckZ r = some x) : x = r ∧ narrow .boolean (.int r) = .int r := by
  unfold ckZ at e
  split at e
  · rename_i hc
    cases e
    refine ⟨rfl, ?_⟩
    rcases hc with rfl | rfl <;> rfl
  · cases e
theorem ob_s {α β : Type} {x : Option α} {f : α → Option β} {r : β} (e : x.bind f = some r) : ∃ v, x = some v ∧ f v = some r := Option.bind_eq_some_iff.mp e
theorem oi_t {β : Type} {c : Prop} [Decidable c] {x y : Option β} {r : β} (e : (if c then x else y) = some r) (h : c) : x = some r := by rw [if_pos h] at e; exact e
theorem oi_f {β : Type} {c : Prop} [Decidable c] {x y : Option β} {r : β} (e : (if c then x else y) = some r) (h : ¬ c) : y = some r := by rw [if_neg h] at e; exact e
theorem oi_c {β : Type} {c : Prop} [Decidable c] {x : Option β} {r : β} (e : (if c then x else none) = some r) : c ∧ x = some r := by
  by_cases h : c
  · rw [if_pos h] at e; exact ⟨h, e⟩
  · rw [if_neg h] at e; cases e
/-- the number of a whole number -/
def iI (z : Int) : Int32 := Int32.ofInt z
def lI (z : Int) : Int64 := Int64.ofInt z
/-- how often a loop may turn -/
def FUEL : Nat := 100000
