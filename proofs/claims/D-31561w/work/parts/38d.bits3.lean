set_option maxRecDepth 100000
/-! HOW MANY BITS -/
/-- all sets of d more people: their number -/
def bcAll : Nat → Nat → Int32 → Int32 → Bool
  | 0, _, a, n => decide (zbc a = n)
  | d + 1, p, a, n => bcAll d (p + 1) a n && bcAll d (p + 1) (a ||| bitA p) (n + 1)
set_option maxHeartbeats 0 in
theorem bcAll_16 : bcAll 16 0 0 0 = true := by decide +kernel
theorem bc_of {b : Nat → Bool} (d p : Nat) (h : bcAll d p (bz b p) (zsum (fun q => if b q = true then 1 else 0) p) = true) : zbc (bz b (p + d)) = zsum (fun q => if b q = true then 1 else 0) (p + d) := by
  induction d generalizing p with
  | zero => exact of_decide_eq_true h
  | succ d ih =>
    obtain ⟨h1, h2⟩ := Bool.and_eq_true_iff.mp h
    have e1 : bz b (p + 1) = bz b p ||| (if b p = true then bitA p else 0) := rfl
    have e2 : zsum (fun q => if b q = true then (1 : Int32) else 0) (p + 1) = zsum (fun q => if b q = true then 1 else 0) p + (if b p = true then 1 else 0) := rfl
    rw [show p + (d + 1) = (p + 1) + d by omega]
    refine ih (p + 1) ?_
    rw [e1, e2]
    by_cases hb : b p = true
    · rw [if_pos hb, if_pos hb]
      exact h2
    · rw [if_neg hb, if_neg hb, Int32.or_zero, Int32.add_zero]
      exact h1
/-- the number of a set's bits is its number -/
theorem bc_16 (b : Nat → Bool) : zbc (bz b 16) = zsum (fun q => if b q = true then 1 else 0) 16 := by
  have := bc_of (b := b) 16 0 bcAll_16
  rwa [Nat.zero_add] at this
