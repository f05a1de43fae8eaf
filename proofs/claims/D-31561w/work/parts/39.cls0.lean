set_option maxRecDepth 100000
/-! THE CLASS: its picture -/
/-- who has reviewed the work w -/
def rK (σ : Nat → Nat → Int32) (w p : Nat) : Bool := decide (p < 16 ∧ ¬ σ 10 (16 * w + p) = -1)
/-- the flags of a work's row as bits -/
def rBits (σ : Nat → Nat → Int32) (k w : Nat) : Int32 := zor (fun p => if σ k (16 * w + p) = 0 then 0 else bitA p) 16
def wO (σ : Nat → Nat → Int32) (ω : Nat → Nat → Nat) (i : Nat) : Option Nat := if σ 2 i = 0 then none else some (ω 1 i)
def pF (n : Nat) (σ : Nat → Nat → Int32) (ω : Nat → Nat → Nat) (x i : Nat) : List Value := [.int (nI i), .int (σ 1 i), .int (σ 3 i), .int (mLoad n σ i), .int (σ 5 i), .int (σ 4 i), va_rf (wO σ ω i), .ref x]
def wF (σ : Nat → Nat → Int32) (ω : Nat → Nat → Nat) (x w : Nat) : List Value := [.ref (ω 0 w), .ref (ω 2 w), .int (rBits σ 7 w), .int (rBits σ 8 w), .int (σ 20 w), .int (σ 6 w), .ref x]
def rF (σ : Nat → Nat → Int32) (ω : Nat → Nat → Nat) (x w p : Nat) : List Value := [.ref (ω 0 p), .int (σ 10 (16 * w + p)), .int (σ 11 (16 * w + p)), .int (σ 9 (16 * w + p)), .ref x]
def rSz (σ : Nat → Nat → Int32) (w : Nat) : Nat := nS (fun p => bn (rK σ w p)) 16
/-- the class's object x: n people, the cells σ (as the reference's; 20: the readers of appeals), addresses ω: 0 people, 1 works, 2 maps, 3 reviews, 4 entries -/
def PX (g : zz_G) (h : zz_H) (x al n : Nat) (σ : Nat → Nat → Int32) (ω : Nat → Nat → Nat) (md : Int32) (ar cap : Nat) (f : Nat → Option Nat) : Prop :=
  h x = some (eO 0 [.ref al, .int (σ 12 0), .int (σ 13 0), .ref (gC g 260), .ref (gC g 261)]) ∧
  AL g h al n md ar cap f ∧
  (∀ i, i < n → f i = some (ω 0 i) ∧ h (ω 0 i) = some (eO 2 (pF n σ ω x i))) ∧
  (∀ w, w < n → ¬ σ 2 w = 0 → h (ω 1 w) = some (eO 3 (wF σ ω x w)) ∧ ∃ mdt, TMX g h h (ω 2 w) (rK σ w) (fun p => ω 4 (16 * w + p)) (fun p => ω 3 (16 * w + p)) (rSz σ w) mdt) ∧
  (∀ w p, w < n → ¬ σ 2 w = 0 → rK σ w p = true → p < n ∧ h (ω 3 (16 * w + p)) = some (eO 5 (rF σ ω x w p))) ∧
  (∀ i j, i < n → j < n → ω 0 i = ω 0 j → i = j) ∧
  (∀ i j, i < n → j < n → ¬ σ 2 i = 0 → ¬ σ 2 j = 0 → (ω 1 i = ω 1 j ∨ ω 2 i = ω 2 j) → i = j) ∧
  (∀ i j p q, i < n → j < n → ¬ σ 2 i = 0 → ¬ σ 2 j = 0 → rK σ i p = true → rK σ j q = true → ω 4 (16 * i + p) = ω 4 (16 * j + q) → i = j)
section PXS
variable {g : zz_G} {h h' : zz_H} {x al n : Nat} {σ : Nat → Nat → Int32} {ω : Nat → Nat → Nat} {md : Int32} {ar cap : Nat} {f : Nat → Option Nat}
theorem AL.mono (hA : AL g h al n md ar cap f) (hh : ∀ a e, h a = some e → h' a = some e) : AL g h' al n md ar cap f := by
  obtain ⟨h1, h2, h3, h4⟩ := hA
  exact ⟨hh _ _ h1, h2, h3, h4.imp id (fun ⟨z1, z2, z3⟩ => ⟨z1, z2, hh _ _ z3⟩)⟩
theorem TMX.mono {t : Nat} {K : Nat → Bool} {N V : Nat → Nat} {sz : Nat} {mdt : Int32} (hT : TMX g h h t K N V sz mdt) (hh : ∀ a e, h a = some e → h' a = some e) : TMX g h' h' t K N V sz mdt := by
  obtain ⟨L, R, P, C, ro, lo, hi, hT, hW, hro⟩ := hT
  exact ⟨L, R, P, C, ro, lo, hi, ⟨hh _ _ hT.1, fun k hk => hh _ _ (hT.2.1 k hk), hT.2.2.1, fun _ _ _ => rfl⟩, hW, hro⟩
theorem PX.mono (hP : PX g h x al n σ ω md ar cap f) (hh : ∀ a e, h a = some e → h' a = some e) : PX g h' x al n σ ω md ar cap f := by
  obtain ⟨h1, h2, h3, h4, h5, h6⟩ := hP
  exact ⟨hh _ _ h1, h2.mono hh, fun i hi => ⟨(h3 i hi).1, hh _ _ (h3 i hi).2⟩, fun w hw hz => ⟨hh _ _ (h4 w hw hz).1, by obtain ⟨mdt, q⟩ := (h4 w hw hz).2; exact ⟨mdt, q.mono hh⟩⟩, fun w p hw hz hk => ⟨(h5 w p hw hz hk).1, hh _ _ (h5 w p hw hz hk).2⟩, h6⟩
theorem up_mono {q : Nat} {e : zz_E} (hq : ∀ y, h q = some y → y = e) : ∀ a y, h a = some y → zz_up h q e a = some y := fun a y hy => by
  by_cases z : a = q
  · rw [z] at hy ⊢
    rw [zz_up_s, hq y hy]
  · rw [zz_up_n z, hy]
theorem PX.o (hP : PX g h x al n σ ω md ar cap f) : h x = some (eO 0 [.ref al, .int (σ 12 0), .int (σ 13 0), .ref (gC g 260), .ref (gC g 261)]) := hP.1
theorem PX.a (hP : PX g h x al n σ ω md ar cap f) : AL g h al n md ar cap f := hP.2.1
theorem PX.le (hP : PX g h x al n σ ω md ar cap f) : n ≤ 16 := hP.2.1.2.1
theorem PX.p (hP : PX g h x al n σ ω md ar cap f) {i : Nat} (hi : i < n) : h (ω 0 i) = some (eO 2 (pF n σ ω x i)) := (hP.2.2.1 i hi).2
theorem PX.fi (hP : PX g h x al n σ ω md ar cap f) {i : Nat} (hi : i < n) : f i = some (ω 0 i) := (hP.2.2.1 i hi).1
theorem PX.w (hP : PX g h x al n σ ω md ar cap f) {w : Nat} (hw : w < n) (hz : ¬ σ 2 w = 0) : h (ω 1 w) = some (eO 3 (wF σ ω x w)) := (hP.2.2.2.1 w hw hz).1
theorem PX.t (hP : PX g h x al n σ ω md ar cap f) {w : Nat} (hw : w < n) (hz : ¬ σ 2 w = 0) : ∃ mdt, TMX g h h (ω 2 w) (rK σ w) (fun p => ω 4 (16 * w + p)) (fun p => ω 3 (16 * w + p)) (rSz σ w) mdt := (hP.2.2.2.1 w hw hz).2
theorem PX.r (hP : PX g h x al n σ ω md ar cap f) {w p : Nat} (hw : w < n) (hz : ¬ σ 2 w = 0) (hk : rK σ w p = true) : p < n ∧ h (ω 3 (16 * w + p)) = some (eO 5 (rF σ ω x w p)) := hP.2.2.2.2.1 w p hw hz hk
end PXS
