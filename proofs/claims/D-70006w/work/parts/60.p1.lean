/-! ===== plain Lean: whole numbers as Int32, Int64 ===== -/
theorem iI_add (a b : Int) : iI a + iI b = iI (a + b) := by simp [iI, Int32.ofInt_add]
theorem iI_sub (a b : Int) : iI a - iI b = iI (a - b) := by simp [iI, Int32.ofInt_sub]
theorem iI_mul (a b : Int) : iI a * iI b = iI (a * b) := by simp [iI, Int32.ofInt_mul]
theorem iI_neg (a : Int) : - iI a = iI (-a) := by simp [iI, Int32.ofInt_neg]
theorem iI_0 : (0 : Int32) = iI 0 := rfl
theorem iI_1 : (1 : Int32) = iI 1 := rfl
theorem iI_lt {a b : Int} (h1 : -2147483648 ≤ a) (h2 : a < 2147483648) (h3 : -2147483648 ≤ b) (h4 : b < 2147483648) : (iI a < iI b) = (a < b) := by
  rw [Int32.lt_iff_toInt_lt, iI_toInt h1 h2, iI_toInt h3 h4]
theorem iI_le {a b : Int} (h1 : -2147483648 ≤ a) (h2 : a < 2147483648) (h3 : -2147483648 ≤ b) (h4 : b < 2147483648) : (iI a ≤ iI b) = (a ≤ b) := by
  rw [Int32.le_iff_toInt_le, iI_toInt h1 h2, iI_toInt h3 h4]
theorem iI_eq {a b : Int} (h1 : -2147483648 ≤ a) (h2 : a < 2147483648) (h3 : -2147483648 ≤ b) (h4 : b < 2147483648) : (iI a = iI b) = (a = b) := by
  rw [← Int32.toInt_inj, iI_toInt h1 h2, iI_toInt h3 h4]
theorem iI_eq0 {a : Int} (h1 : -2147483648 ≤ a) (h2 : a < 2147483648) : (iI a = 0) = (a = 0) := by rw [iI_0, iI_eq h1 h2 (by decide) (by decide)]
theorem iI_lt0 {a : Int} (h1 : -2147483648 ≤ a) (h2 : a < 2147483648) : (iI a < 0) = (a < 0) := by rw [iI_0, iI_lt h1 h2 (by decide) (by decide)]
theorem iI_le0 {a : Int} (h1 : -2147483648 ≤ a) (h2 : a < 2147483648) : (iI a ≤ 0) = (a ≤ 0) := by rw [iI_0, iI_le h1 h2 (by decide) (by decide)]
theorem iI_0lt {a : Int} (h1 : -2147483648 ≤ a) (h2 : a < 2147483648) : (0 < iI a) = (0 < a) := by rw [iI_0, iI_lt (by decide) (by decide) h1 h2]
theorem iI_0le {a : Int} (h1 : -2147483648 ≤ a) (h2 : a < 2147483648) : (0 ≤ iI a) = (0 ≤ a) := by rw [iI_0, iI_le (by decide) (by decide) h1 h2]
theorem iI_clamp {a : Int} (h1 : 0 ≤ a) (h2 : a < 2147483648) : (iI a).toNatClampNeg = a.toNat := by
  show (iI a).toInt.toNat = a.toNat
  rw [iI_toInt (by omega) h2]
theorem iI_nat (n : Nat) : iI (n : Int) = nI n := by
  show (⟨⟨BitVec.ofInt 32 (n : Int)⟩⟩ : Int32) = ⟨⟨BitVec.ofNat 32 n⟩⟩
  rw [BitVec.ofInt_natCast]
theorem iI_div {a b : Int} (h1 : 0 ≤ a) (h2 : a < 2147483648) (h3 : 0 < b) (h4 : b < 2147483648) : iI a / iI b = iI (a / b) := by
  have e1 : iI a = nI a.toNat := by rw [← iI_nat, Int.toNat_of_nonneg h1]
  have e2 : iI b = nI b.toNat := by rw [← iI_nat, Int.toNat_of_nonneg (by omega)]
  rw [e1, e2, pk_div (by omega) (by omega) (by omega), ← iI_nat, Int.natCast_ediv, Int.toNat_of_nonneg h1, Int.toNat_of_nonneg (by omega)]
theorem iI_rem {a b : Int} (h1 : 0 ≤ a) (h2 : a < 2147483648) (h3 : 0 < b) (h4 : b < 2147483648) : rmI (iI a) (iI b) = some (iI (a % b)) := by
  unfold rmI
  rw [if_neg (by rw [iI_eq0 (by omega) h4]; omega), iI_div h1 h2 h3 h4, iI_mul, iI_sub]
  congr 2
  have := Int.mul_ediv_add_emod a b
  rw [Int.mul_comm] at this
  omega
theorem iI_dv {a b : Int} (h1 : 0 ≤ a) (h2 : a < 2147483648) (h3 : 0 < b) (h4 : b < 2147483648) : dvI (iI a) (iI b) = some (iI (a / b)) := by
  unfold dvI
  rw [if_neg (by rw [iI_eq0 (by omega) h4]; omega), iI_div h1 h2 h3 h4]
theorem ite_iI {c : Prop} [Decidable c] (a b : Int) : (if c then iI a else iI b) = iI (if c then a else b) := by split <;> rfl
theorem ite_some {α : Type} {c : Prop} [Decidable c] (a b : α) : (if c then some a else some b) = some (if c then a else b) := by split <;> rfl
/-! ===== the model's heap: the object and its thirteen arrays, one behind the other ===== -/
abbrev MR : Type := Nat → Int → Int
abbrev MSc : Type := Nat → Int
def mTag (k : Nat) : Nat := if k = 2 then 3 else 0
def mLen (k : Nat) : Nat := match k with
  | 0 => 225
  | 1 => 75
  | 2 => 2
  | 3 => 32
  | 4 => 75
  | 5 => 32
  | 6 => 160
  | 7 => 4
  | 8 => 186
  | 9 => 4
  | 10 => 4
  | 11 => 160
  | _ => 75
def mF (m : Nat) (S : MSc) : List Value := [.ref (m + 1), .ref (m + 2), .ref (m + 3), .int (iI (S 3)), .int (iI (S 4)), .int (iI (S 5)), .ref (m + 4), .ref (m + 5), .int (iI (S 8)), .int (iI (S 9)), .int (iI (S 10)), .ref (m + 6), .int (iI (S 12)), .ref (m + 7), .int (iI (S 14)), .int (iI (S 15)), .int (iI (S 16)), .int (iI (S 17)), .int (iI (S 18)), .int (iI (S 19)), .int (iI (S 20)), .ref (m + 8), .int (iI (S 22)), .long (lI (S 23)), .long (lI (S 24)), .long (lI (S 25)), .ref (m + 9), .ref (m + 10), .ref (m + 11), .ref (m + 12), .int (iI (S 30)), .ref (m + 13)]
def mCell (m : Nat) (R : MR) (S : MSc) (k : Nat) : Ob := match k with
  | 0 => .inr (.inr (4, mF m S))
  | k + 1 => .inl (mTag k, mLen k, fun i => iI (R k i))
def mput (h : Hp) (m : Nat) (R : MR) (S : MSc) : Hp := (h.1, fun q => if m ≤ q ∧ q < m + 14 then some (mCell m R S (q - m)) else h.2 q)
def up2 (R : MR) (k : Nat) (i v : Int) : MR := fun k' i' => if k' = k ∧ i' = i then v else R k' i'
def upS (S : MSc) (k : Nat) (v : Int) : MSc := fun k' => if k' = k then v else S k'
theorem mput_at (h : Hp) (m : Nat) (R : MR) (S : MSc) {k : Nat} (hk : k < 14) : (mput h m R S).2 (m + k) = some (mCell m R S k) := by
  show (if m ≤ m + k ∧ m + k < m + 14 then _ else _) = _
  rw [if_pos ⟨by omega, by omega⟩, Nat.add_sub_cancel_left]
theorem mput_0 (h : Hp) (m : Nat) (R : MR) (S : MSc) : (mput h m R S).2 m = some (.inr (.inr (4, mF m S))) := mput_at h m R S (k := 0) (by decide)
theorem mput_mput (h : Hp) (m : Nat) (R R' : MR) (S S' : MSc) : mput (mput h m R S) m R' S' = mput h m R' S' := by
  unfold mput
  congr 1
  funext q
  by_cases hq : m ≤ q ∧ q < m + 14
  · rw [if_pos hq, if_pos hq]
  · rw [if_neg hq, if_neg hq]
    show (if m ≤ q ∧ q < m + 14 then _ else _) = _
    rw [if_neg hq]
theorem m_cls (h : Hp) (m : Nat) (R : MR) (S : MSc) : ep_cls (mput h m R S) m = some 4 := by simp [ep_cls, mput_0]
theorem m_fld (h : Hp) (m : Nat) (R : MR) (S : MSc) (j : Nat) : ep_fld (mput h m R S) m 4 j = (mF m S)[j]? := by simp [ep_fld, mput_0]
theorem m_gI (h : Hp) (m : Nat) (R : MR) (S : MSc) (j : Nat) {x : Int} (hx : (mF m S)[j]? = some (.int (iI x))) : gI (mput h m R S) m 4 j = some (iI x) := by simp [gI, m_fld, hx]
theorem m_gR (h : Hp) (m : Nat) (R : MR) (S : MSc) (j : Nat) {x : Nat} (hx : (mF m S)[j]? = some (.ref x)) : gR (mput h m R S) m 4 j = some x := by simp [gR, m_fld, hx]
theorem m_aI (h : Hp) (m : Nat) (R : MR) (S : MSc) (k : Nat) (hk : k < 13) {i : Int} (h1 : 0 ≤ i) (h2 : i < mLen k) : aI (mTag k) (mput h m R S) (m + (k + 1)) (iI i) = some (iI (R k i)) := by
  have hl : mLen k ≤ 225 := by unfold mLen; split <;> omega
  unfold aI
  rw [mput_at h m R S (k := k + 1) (by omega)]
  show (if mTag k = mTag k ∧ ¬ iI i < 0 ∧ (iI i).toNatClampNeg < mLen k then some (iI (R k ((iI i).toNatClampNeg : Nat))) else none) = _
  have hn : ¬ iI i < 0 := by rw [iI_lt0 (by omega) (by omega)]; omega
  rw [iI_clamp h1 (by omega), if_pos ⟨rfl, hn, by omega⟩, Int.toNat_of_nonneg h1]
theorem m_aS (h : Hp) (m : Nat) (R : MR) (S : MSc) (k : Nat) (hk : k < 13) {i v : Int} (h1 : 0 ≤ i) (h2 : i < mLen k) : aS (mTag k) (mput h m R S) (m + (k + 1)) (iI i) (iI v) = some (mput h m (up2 R k i v) S) := by
  have hl : mLen k ≤ 225 := by unfold mLen; split <;> omega
  unfold aS
  rw [mput_at h m R S (k := k + 1) (by omega)]
  show (if mTag k = mTag k ∧ ¬ iI i < 0 ∧ (iI i).toNatClampNeg < mLen k then some (ep_set (mput h m R S) (m + (k + 1)) (.inl (mTag k, mLen k, upd (fun j => iI (R k j)) (iI i).toNatClampNeg (iI v)))) else none) = _
  have hn : ¬ iI i < 0 := by rw [iI_lt0 (by omega) (by omega)]; omega
  rw [iI_clamp h1 (by omega), if_pos ⟨rfl, hn, by omega⟩]
  congr 1
  unfold ep_set mput
  congr 1
  funext q
  unfold va_up
  by_cases hq : q = m + (k + 1)
  · subst hq
    rw [if_pos rfl, if_pos ⟨by omega, by omega⟩, Nat.add_sub_cancel_left]
    show _ = some (Sum.inl (mTag k, mLen k, fun (j : Nat) => iI (up2 R k i v k (j : Int))))
    congr 3
    congr 1
    funext j
    unfold upd up2
    by_cases hj : j = i.toNat
    · rw [if_pos hj, if_pos ⟨rfl, by omega⟩]
    · rw [if_neg hj, if_neg (by omega)]
  · rw [if_neg hq]
    show (if m ≤ q ∧ q < m + 14 then some (mCell m R S (q - m)) else h.2 q) = (if m ≤ q ∧ q < m + 14 then some (mCell m (up2 R k i v) S (q - m)) else h.2 q)
    by_cases hin : m ≤ q ∧ q < m + 14
    · rw [if_pos hin, if_pos hin]
      congr 1
      obtain ⟨d, rfl⟩ : ∃ d, q = m + d := ⟨q - m, by omega⟩
      rw [Nat.add_sub_cancel_left]
      cases d with
      | zero => rfl
      | succ d =>
        show (Sum.inl (mTag d, mLen d, fun (j : Nat) => iI (R d (j : Int))) : Ob) = Sum.inl (mTag d, mLen d, fun (j : Nat) => iI (up2 R k i v d (j : Int)))
        congr 3
        funext j
        unfold up2
        rw [if_neg (by omega)]
    · rw [if_neg hin, if_neg hin]
theorem m_of (h : Hp) (m : Nat) (R : MR) (S : MSc) {e w : Int} (h1 : 0 ≤ 8 + 9 * e + w) (h2 : 8 + 9 * e + w < 75) : fX4_of (mput h m R S) m (iI e) (iI w) = some (iI (R 1 (8 + 9 * e + w))) := by
  unfold fX4_of
  rw [if_pos (m_cls h m R S), m_gR h m R S 1 (x := m + 2) rfl, Option.bind_some, iI_mul, iI_add, iI_add, show (0 : Nat) = mTag 1 from rfl, m_aI h m R S 1 (by decide) h1 (by show _ < ((75 : Nat) : Int); omega), Option.bind_some]
