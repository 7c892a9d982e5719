/-! ===== sets as bits, and their numbers ===== -/
def bm (f : Int → Bool) : Nat → Int
  | 0 => 0
  | n + 1 => bm f n + (if f n = true then 2 ^ n else 0)
def cnt (f : Int → Bool) : Nat → Int
  | 0 => 0
  | n + 1 => cnt f n + (if f n = true then 1 else 0)
theorem bm_lt (f : Int → Bool) : ∀ n, 0 ≤ bm f n ∧ bm f n < 2 ^ n
  | 0 => by simp [bm]
  | n + 1 => by
    have := bm_lt f n
    have e : (2 : Int) ^ (n + 1) = 2 * 2 ^ n := by rw [Int.pow_succ]; omega
    rw [e]
    simp only [bm]
    split <;> omega
theorem cnt_le (f : Int → Bool) : ∀ n, 0 ≤ cnt f n ∧ cnt f n ≤ n
  | 0 => by simp [cnt]
  | n + 1 => by
    have := cnt_le f n
    simp only [cnt]
    split <;> omega
theorem bm_congr {f g : Int → Bool} {n : Nat} (h : ∀ k : Nat, k < n → f k = g k) : bm f n = bm g n := by
  induction n with
  | zero => rfl
  | succ n ih => rw [bm, bm, ih (fun k hk => h k (by omega)), h n (by omega)]
theorem cnt_congr {f g : Int → Bool} {n : Nat} (h : ∀ k : Nat, k < n → f k = g k) : cnt f n = cnt g n := by
  induction n with
  | zero => rfl
  | succ n ih => rw [cnt, cnt, ih (fun k hk => h k (by omega)), h n (by omega)]
theorem b_or5 : ∀ n : Fin 5, ∀ s : Fin 16, s.val < 2 ^ n.val → ∀ b : Fin 2, iI (s.val : Int) ||| (iI (b.val : Int) <<< (iI (n.val : Int) &&& 31)) = iI ((s.val : Int) + (b.val : Int) * 2 ^ n.val) := by decide +kernel
theorem bm_or (f : Int → Bool) {n : Nat} (hn : n < 5) {c : Prop} [Decidable c] (hc : f n = decide c) : iI (bm f n) ||| (iI (if c then 1 else 0) <<< (iI n &&& 31)) = iI (bm f (n + 1)) := by
  obtain ⟨h1, h2⟩ := bm_lt f n
  obtain ⟨s, hs⟩ : ∃ s : Nat, bm f n = s := ⟨(bm f n).toNat, by omega⟩
  have hp : (2 : Int) ^ n = ((2 ^ n : Nat) : Int) := by simp
  have h3 : s < 2 ^ n := by rw [hs, hp] at h2; omega
  have h16 : (2 : Nat) ^ n ≤ 16 := by
    have : n = 0 ∨ n = 1 ∨ n = 2 ∨ n = 3 ∨ n = 4 := by omega
    rcases this with h | h | h | h | h <;> subst h <;> decide
  have k := b_or5 ⟨n, hn⟩ ⟨s, by omega⟩ h3 ⟨if c then 1 else 0, by split <;> omega⟩
  simp only at k
  rw [bm, hs, hc]
  by_cases q : c
  · simp only [q, if_true, decide_true] at k ⊢
    simpa using k
  · simp only [q, if_false, decide_false] at k ⊢
    simpa using k
def vb (b : Bool) : Int := if b = true then 1 else 0
theorem m_bits5 : ∀ b0 b1 b2 b3 b4 : Bool, fX4_bitsOf (iI (vb b0 + vb b1 * 2 + vb b2 * 4 + vb b3 * 8 + vb b4 * 16)) = some (iI (vb b0 + vb b1 + vb b2 + vb b3 + vb b4)) := by decide +kernel
theorem c_bits5 : ∀ b0 b1 b2 b3 b4 : Bool, fJ9_bitCount (iI (vb b0 + vb b1 * 2 + vb b2 * 4 + vb b3 * 8 + vb b4 * 16)) = some (iI (vb b0 + vb b1 + vb b2 + vb b3 + vb b4)) := by decide +kernel
/-- bits below n, n at most 5, spelt out -/
theorem bm_5 (f : Int → Bool) {n : Nat} (hn : n ≤ 5) : bm f n = vb (f 0 && decide (0 < n)) + vb (f 1 && decide (1 < n)) * 2 + vb (f 2 && decide (2 < n)) * 4 + vb (f 3 && decide (3 < n)) * 8 + vb (f 4 && decide (4 < n)) * 16 := by
  have : n = 0 ∨ n = 1 ∨ n = 2 ∨ n = 3 ∨ n = 4 ∨ n = 5 := by omega
  rcases this with h | h | h | h | h | h <;> subst h <;> simp [bm, vb] <;> cases f 0 <;> cases f 1 <;> cases f 2 <;> cases f 3 <;> cases f 4 <;> simp
theorem cnt_5 (f : Int → Bool) {n : Nat} (hn : n ≤ 5) : cnt f n = vb (f 0 && decide (0 < n)) + vb (f 1 && decide (1 < n)) + vb (f 2 && decide (2 < n)) + vb (f 3 && decide (3 < n)) + vb (f 4 && decide (4 < n)) := by
  have : n = 0 ∨ n = 1 ∨ n = 2 ∨ n = 3 ∨ n = 4 ∨ n = 5 := by omega
  rcases this with h | h | h | h | h | h <;> subst h <;> simp [cnt, vb] <;> omega
theorem m_bitsOf (f : Int → Bool) {n : Nat} (hn : n ≤ 5) : fX4_bitsOf (iI (bm f n)) = some (iI (cnt f n)) := by
  rw [bm_5 f hn, cnt_5 f hn]; exact m_bits5 _ _ _ _ _
theorem c_bitCount (f : Int → Bool) {n : Nat} (hn : n ≤ 5) : fJ9_bitCount (iI (bm f n)) = some (iI (cnt f n)) := by
  rw [bm_5 f hn, cnt_5 f hn]; exact c_bits5 _ _ _ _ _
/-- one bit asked for -/
theorem b_at5 : ∀ b0 b1 b2 b3 b4 : Bool, ∀ k : Fin 5, ((iI (vb b0 + vb b1 * 2 + vb b2 * 4 + vb b3 * 8 + vb b4 * 16) >>> (iI (k.val : Int) &&& 31)) &&& iI 1) = iI (if (match k.val with | 0 => b0 | 1 => b1 | 2 => b2 | 3 => b3 | _ => b4) = true then 1 else 0) := by decide +kernel
theorem bm_at (f : Int → Bool) {n k : Nat} (hn : n ≤ 5) (hk : k < n) : ((iI (bm f n) >>> (iI k &&& 31)) &&& iI 1) = iI (if f k = true then 1 else 0) := by
  rw [bm_5 f hn, b_at5 _ _ _ _ _ ⟨k, by omega⟩]
  have : k = 0 ∨ k = 1 ∨ k = 2 ∨ k = 3 ∨ k = 4 := by omega
  rcases this with h | h | h | h | h <;> subst h <;> simp [hk]
