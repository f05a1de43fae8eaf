set_option maxRecDepth 100000
/-! SETS OF PEOPLE AS BITS -/
def bz (b : Nat → Bool) (k : Nat) : Int32 := zor (fun p => if b p = true then bitA p else 0) k
theorem bt_A : ∀ p, p < 16 → ∀ i, i < 32 → bt (bitA p) i = decide (i = p) := by decide +kernel
theorem bt_z {b : Nat → Bool} {k : Nat} (hk : k ≤ 16) {i : Nat} (hi : i < 32) : bt (bz b k) i = (decide (i < k) && b i) := by
  induction k with
  | zero => simp [bz, zor, b_0]
  | succ k ih =>
    have e : bz b (k + 1) = bz b k ||| (if b k = true then bitA k else 0) := rfl
    rw [e, b_or, ih (by omega)]
    by_cases hb : b k = true
    · rw [if_pos hb, bt_A k (by omega) i hi]
      by_cases h1 : i = k
      · subst h1; simp [hb]
      · by_cases h2 : i < k
        · simp [h1, h2, show i < k + 1 by omega]
        · simp [h1, h2, show ¬ i < k + 1 by omega]
    · rw [if_neg hb, b_0]
      by_cases h1 : i = k
      · subst h1; simp [hb]
      · by_cases h2 : i < k
        · simp [h2, show i < k + 1 by omega]
        · simp [h2, show ¬ i < k + 1 by omega]
theorem bt_1 : ∀ i, i < 32 → bt 1 i = decide (i = 0) := by decide +kernel
/-- is p in the set? -/
theorem bz_in {b : Nat → Bool} {p : Nat} (hp : p < 16) {x : Int32} (hx : ∀ i, i < 32 → bt x i = (decide (i < 16) && b i)) : (x >>> (nI p &&& 31)) &&& 1 = zb (b p) := by
  apply b_ext
  intro i hi
  rw [b_and, b_sshr p (by omega) x hi, bt_1 i hi]
  by_cases h0 : i = 0
  · subst h0
    rw [if_pos (by omega), Nat.add_zero, hx p (by omega)]
    cases hb : b p <;> simp [hp, hb, zb] <;> decide +kernel
  · have h1 : bt (zb (b p)) i = false := by
      cases hb : b p
      · exact b_0 i
      · show bt 1 i = false
        rw [bt_1 i hi]
        simp [h0]
    rw [h1]
    simp [h0]
