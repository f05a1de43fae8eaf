set_option maxRecDepth 100000
/-! PURE THINGS: sums, numbers, the reference's picture -/
def zb (b : Bool) : Int32 := bif b then 1 else 0
theorem zb_0 {b : Bool} : zb b = 0 ↔ b = false := by cases b <;> decide
theorem zb_n {b : Bool} : ¬ zb b = 0 ↔ b = true := by cases b <;> decide
theorem zb_nar (b : Bool) : narrow .boolean (.int (zb b)) = .int (zb b) := by cases b <;> decide
theorem zb_and (b : Bool) : vp_nar .boolean (zb b) = zb b := by cases b <;> decide
def zsum (f : Nat → Int32) : Nat → Int32
  | 0 => 0
  | n + 1 => zsum f n + f n
def zor (f : Nat → Int32) : Nat → Int32
  | 0 => 0
  | n + 1 => zor f n ||| f n
theorem zsum_congr {f f' : Nat → Int32} {n : Nat} (h : ∀ j, j < n → f j = f' j) : zsum f n = zsum f' n := by
  induction n with
  | zero => rfl
  | succ n ih => rw [zsum, zsum, ih (fun j hj => h j (Nat.lt_succ_of_lt hj)), h n (Nat.lt_succ_self n)]
theorem zor_congr {f f' : Nat → Int32} {n : Nat} (h : ∀ j, j < n → f j = f' j) : zor f n = zor f' n := by
  induction n with
  | zero => rfl
  | succ n ih => rw [zor, zor, ih (fun j hj => h j (Nat.lt_succ_of_lt hj)), h n (Nat.lt_succ_self n)]
theorem zi_c {a b : Int32} (h : a = b) : some (Value.int a) = some (Value.int b) := by rw [h]
theorem zi_1 (i : Nat) : nI i + Int32.ofInt 1 = nI (i + 1) := nI_1 i
theorem zi_ge {i n : Nat} (h : i ≤ n) (hn : n ≤ 65536) (c : nI n ≤ nI i) : i = n := by
  have := (nI_leI (by omega) (by omega)).mp c
  omega
theorem zi_lt {i n : Nat} (h : i ≤ n) (hn : n ≤ 65536) (c : ¬ nI n ≤ nI i) : i < n := by
  rcases Nat.lt_or_ge i n with q | q
  · exact q
  · exact absurd (nI_le q (by omega)) c
theorem zi_at (p w : Nat) : (16 : Int32) * nI w + nI p = nI (16 * w + p) := by
  have h : (16 : Int32) = nI 16 := by decide
  rw [h, pk_mul, nI_add]
theorem zi_m1 {j : Nat} (h : j < 65536) : ¬ nI j = -1 := by
  intro e
  have := nI_pos' (n := j) (by omega)
  rw [e] at this
  exact absurd this (by decide)
/-- a number of a person, or none: -1 -/
def zo (r : Option Nat) : Int32 := match r with
  | none => -1
  | some j => nI j
/-- is x the number of one of n? -/
def isPB (n : Nat) (x : Int32) : Bool := decide (0 ≤ x ∧ x ≤ nI n - 1)
theorem isPB_t {n : Nat} {x : Int32} (hn : n ≤ 65536) (h : isPB n x = true) : ∃ j, j < n ∧ x = nI j := by
  obtain ⟨h1, h2⟩ := of_decide_eq_true h
  have h0 : ¬ x < 0 := fun z => absurd (Int32.lt_of_lt_of_le z h1) (Int32.lt_irrefl)
  obtain ⟨j, hj, rfl⟩ := nI_of h0
  cases n with
  | zero =>
    have e : nI 0 - 1 = -1 := by decide
    rw [e] at h2
    have := Int32.le_trans h1 h2
    exact absurd this (by decide)
  | succ n =>
    rw [nI_pred] at h2
    have := (nI_leI hj (by omega)).mp h2
    exact ⟨j, by omega, rfl⟩
theorem isPB_j {n j : Nat} (hn : n ≤ 65536) (hj : j < n) : isPB n (nI j) = true := by
  cases n with
  | zero => omega
  | succ n =>
    refine decide_eq_true ⟨nI_pos' (by omega), ?_⟩
    rw [nI_pred]
    exact nI_le (by omega) (by omega)
/-! the reference's object: its 20 fields; arrays by the fields' numbers -/
def mA (k : Nat) : Bool := match k with
  | 1 | 2 | 3 | 4 | 5 | 6 | 7 | 8 | 9 | 10 | 11 | 15 | 16 | 17 | 18 | 19 => true
  | _ => false
def mN (k : Nat) : Nat := match k with
  | 7 | 8 | 9 | 10 | 11 | 15 => 256
  | _ => 16
def mE (k : Nat) (f : Nat → Int32) : zz_E := match k with
  | 2 | 6 | 17 => eZ 16 f
  | 7 | 8 | 9 | 15 => eZ 256 f
  | 10 | 11 => eI 256 f
  | _ => eI 16 f
def mFs (n : Nat) (ad : Nat → Nat) (σ : Nat → Nat → Int32) : List Value := [.int (nI n), .ref (ad 1), .ref (ad 2), .ref (ad 3), .ref (ad 4), .ref (ad 5), .ref (ad 6), .ref (ad 7), .ref (ad 8), .ref (ad 9), .ref (ad 10), .ref (ad 11), .int (σ 12 0), .int (σ 13 0), .int (σ 14 0), .ref (ad 15), .ref (ad 16), .ref (ad 17), .ref (ad 18), .ref (ad 19)]
/-- one field's cells anew -/
def zk (σ : Nat → Nat → Int32) (k : Nat) (f : Nat → Int32) : Nat → Nat → Int32 := fun q => if q = k then f else σ q
theorem zk_s {σ : Nat → Nat → Int32} {k : Nat} {f : Nat → Int32} : zk σ k f k = f := if_pos rfl
theorem zk_n {σ : Nat → Nat → Int32} {k q : Nat} {f : Nat → Int32} (h : q ≠ k) : zk σ k f q = σ q := if_neg h
/-- the reference m with its arrays at ad: n people, the cells σ; other cells as in h0 -/
def MR (h0 h : zz_H) (m : Nat) (ad : Nat → Nat) (n : Nat) (σ : Nat → Nat → Int32) : Prop :=
  n ≤ 16 ∧ h m = some (eO 1 (mFs n ad σ)) ∧ (∀ k, mA k = true → h (ad k) = some (mE k (σ k))) ∧ (∀ j k, mA j = true → mA k = true → ad j = ad k → j = k) ∧ (∀ k, mA k = true → ad k ≠ m) ∧ ∀ a, a ≠ m → (∀ k, mA k = true → a ≠ ad k) → h a = h0 a
section MRS
variable {h0 h : zz_H} {m : Nat} {ad : Nat → Nat} {n : Nat} {σ : Nat → Nat → Int32}
theorem MR.le (hM : MR h0 h m ad n σ) : n ≤ 16 := hM.1
theorem MR.o (hM : MR h0 h m ad n σ) : h m = some (eO 1 (mFs n ad σ)) := hM.2.1
theorem MR.arr (hM : MR h0 h m ad n σ) (k : Nat) (hk : mA k = true) : h (ad k) = some (mE k (σ k)) := hM.2.2.1 k hk
/-- a store into one array -/
theorem MR.ua (hM : MR h0 h m ad n σ) (k : Nat) (hk : mA k = true) (f : Nat → Int32) : MR h0 (zz_up h (ad k) (mE k f)) m ad n (zk σ k f) := by
  obtain ⟨h1, h2, h3, h4, h5, h6⟩ := hM
  refine ⟨h1, ?_, fun j hj => ?_, h4, h5, fun a ha hb => ?_⟩
  · rw [zz_up_n (Ne.symm (h5 k hk)), h2]
    have e : mFs n ad (zk σ k f) = mFs n ad σ := by
      have e1 : (12 : Nat) ≠ k := fun z => by subst z; cases hk
      have e2 : (13 : Nat) ≠ k := fun z => by subst z; cases hk
      have e3 : (14 : Nat) ≠ k := fun z => by subst z; cases hk
      simp only [mFs, zk_n e1, zk_n e2, zk_n e3]
    rw [e]
  · by_cases q : j = k
    · subst q
      rw [zz_up_s, zk_s]
    · rw [zz_up_n (fun z => q (h4 j k hj hk z)), zk_n q, h3 j hj]
  · rw [zz_up_n (hb k hk)]
    exact h6 a ha hb
/-- a store into one of the fields 12, 13, 14 -/
theorem MR.us (hM : MR h0 h m ad n σ) (k : Nat) (hk : k = 12 ∨ k = 13 ∨ k = 14) (v : Int32) : MR h0 (zz_up h m (eO 1 ((mFs n ad σ).set k (.int v)))) m ad n (zk σ k (fun _ => v)) := by
  obtain ⟨h1, h2, h3, h4, h5, h6⟩ := hM
  refine ⟨h1, ?_, fun j hj => ?_, h4, h5, fun a ha hb => ?_⟩
  · rw [zz_up_s]
    rcases hk with rfl | rfl | rfl <;> rfl
  · have q : j ≠ k := fun z => by subst z; rcases hk with rfl | rfl | rfl <;> cases hj
    rw [zz_up_n (h5 j hj), zk_n q, h3 j hj]
  · rw [zz_up_n ha]
    exact h6 a ha hb
/-- one person more -/
theorem MR.un (hM : MR h0 h m ad n σ) (hn : n + 1 ≤ 16) : MR h0 (zz_up h m (eO 1 ((mFs n ad σ).set 0 (.int (nI (n + 1)))))) m ad (n + 1) σ := by
  obtain ⟨h1, h2, h3, h4, h5, h6⟩ := hM
  refine ⟨hn, ?_, fun j hj => ?_, h4, h5, fun a ha hb => ?_⟩
  · rw [zz_up_s]
    rfl
  · rw [zz_up_n (h5 j hj), h3 j hj]
  · rw [zz_up_n ha]
    exact h6 a ha hb
theorem MR.cong {σ' : Nat → Nat → Int32} (hM : MR h0 h m ad n σ) (e : ∀ k, σ k = σ' k) : MR h0 h m ad n σ' := by
  have : σ = σ' := funext e
  rw [← this]
  exact hM
end MRS
theorem zk_u {σ : Nat → Nat → Int32} {k : Nat} {f f' : Nat → Int32} : zk (zk σ k f) k f' = zk σ k f' := by
  funext q
  by_cases hq : q = k
  · simp [zk, hq]
  · simp [zk, hq]
