set_option maxRecDepth 100000
/-! A SEARCH TREE by its nodes' keys (0 .. 15): children, parents, the keys' bounds below a node -/
def fu {α : Type} (f : Nat → α) (k : Nat) (v : α) : Nat → α := fun q => if q = k then v else f q
theorem fu_s {α : Type} {f : Nat → α} {k : Nat} {v : α} : fu f k v k = v := if_pos rfl
theorem fu_n {α : Type} {f : Nat → α} {k q : Nat} {v : α} (h : q ≠ k) : fu f k v q = f q := if_neg h
def tW (K : Nat → Bool) (ro : Option Nat) (L R P : Nat → Option Nat) (lo hi : Nat → Nat) : Prop :=
  (∀ k, K k = true → lo k ≤ k ∧ k < hi k ∧ hi k ≤ 16) ∧
  (ro = none → ∀ k, K k = false) ∧
  (∀ r, ro = some r → K r = true ∧ lo r = 0 ∧ hi r = 16 ∧ P r = none) ∧
  (∀ k j, K k = true → L k = some j → K j = true ∧ lo j = lo k ∧ hi j = k ∧ P j = some k) ∧
  (∀ k j, K k = true → R k = some j → K j = true ∧ lo j = k + 1 ∧ hi j = hi k ∧ P j = some k) ∧
  (∀ k j, K k = true → P k = some j → K j = true ∧ (L j = some k ∨ R j = some k)) ∧
  (∀ k, K k = true → P k = none → ro = some k) ∧
  (∀ k, K k = true → L k = none → ∀ j, lo k ≤ j → j < k → K j = false) ∧
  (∀ k, K k = true → R k = none → ∀ j, k < j → j < hi k → K j = false)
/-- a rotation: the children on the near side, on the far side, the parents, the root -/
def rl1 (L P : Nat → Option Nat) (p r : Nat) : Nat → Option Nat := fun q => if q = r then some p else if P p = some q ∧ L q = some p then some r else L q
def rl2 (L R P : Nat → Option Nat) (p r : Nat) : Nat → Option Nat := fun q => if q = p then L r else if P p = some q ∧ ¬ L q = some p then some r else R q
def rl3 (L P : Nat → Option Nat) (p r : Nat) : Nat → Option Nat := fun q => if q = p then some r else if q = r then P p else if L r = some q then some p else P q
def rlo (P : Nat → Option Nat) (ro : Option Nat) (p r : Nat) : Option Nat := if P p = none then some r else ro
/-- the only place for x is below q -/
def tU (K : Nat → Bool) (L R : Nat → Option Nat) (lo hi : Nat → Nat) (x q : Nat) : Prop := ∀ k, K k = true → lo k ≤ x → x < hi k → (x < k → L k = none → k = q) ∧ (k < x → R k = none → k = q)
def tSq (ro : Option Nat) (L R : Nat → Option Nat) (x : Nat) : Nat → Option Nat
  | 0 => ro
  | i + 1 => match tSq ro L R x i with
    | none => none
    | some k => if x < k then L k else R k
theorem tSq_n {ro : Option Nat} {L R : Nat → Option Nat} {x i : Nat} (h : tSq ro L R x i = none) (d : Nat) : tSq ro L R x (i + d) = none := by
  induction d with
  | zero => exact h
  | succ d ih =>
    show (match tSq ro L R x (i + d) with | none => none | some k => if x < k then L k else R k) = none
    rw [ih]
theorem tSq_on {K : Nat → Bool} {ro : Option Nat} {L R P : Nat → Option Nat} {lo hi : Nat → Nat} (H : tW K ro L R P lo hi) {x : Nat} (hx : K x = false) (d : Nat) : ∀ k, K k = true → lo k ≤ x → x < hi k → 17 ≤ hi k - lo k + d → ∃ i, tSq ro L R x i = some k := by
  obtain ⟨a, b, c, d', e, f, g, h, i⟩ := H
  induction d with
  | zero => intro k hk h1 h2 h3; have := a k hk; omega
  | succ d ih =>
    intro k hk h1 h2 h3
    cases hp : P k with
    | none => exact ⟨0, g k hk hp⟩
    | some p =>
      obtain ⟨hpK, hpc⟩ := f k p hk hp
      have hkx : k ≠ x := fun z => by rw [z, hx] at hk; cases hk
      have hpx : p ≠ x := fun z => by rw [z, hx] at hpK; cases hpK
      rcases hpc with hl | hr
      · obtain ⟨-, q1, q2, -⟩ := d' p k hpK hl
        have ha := a p hpK
        obtain ⟨i, hi⟩ := ih p hpK (by omega) (by omega) (by omega)
        refine ⟨i + 1, ?_⟩
        show (match tSq ro L R x i with | none => none | some k => if x < k then L k else R k) = some k
        rw [hi]
        show (if x < p then L p else R p) = some k
        rw [if_pos (by omega), hl]
      · obtain ⟨-, q1, q2, -⟩ := e p k hpK hr
        have ha := a p hpK
        obtain ⟨i, hi⟩ := ih p hpK (by omega) (by omega) (by omega)
        refine ⟨i + 1, ?_⟩
        show (match tSq ro L R x i with | none => none | some k => if x < k then L k else R k) = some k
        rw [hi]
        show (if x < p then L p else R p) = some k
        rw [if_neg (by omega), hr]
theorem tU_of {K : Nat → Bool} {ro : Option Nat} {L R P : Nat → Option Nat} {lo hi : Nat → Nat} (H : tW K ro L R P lo hi) {x q : Nat} (hx : K x = false) (hq : K q = true) (h1 : lo q ≤ x) (h2 : x < hi q) (he : (x < q ∧ L q = none) ∨ (q < x ∧ R q = none)) : tU K L R lo hi x q := by
  have hend : ∀ k, (x < k ∧ L k = none) ∨ (k < x ∧ R k = none) → ∀ i, tSq ro L R x i = some k → tSq ro L R x (i + 1) = none := by
    intro k hk i hi
    show (match tSq ro L R x i with | none => none | some k => if x < k then L k else R k) = none
    rw [hi]
    show (if x < k then L k else R k) = none
    rcases hk with ⟨z1, z2⟩ | ⟨z1, z2⟩
    · rw [if_pos z1, z2]
    · rw [if_neg (by omega), z2]
  have key : ∀ k, K k = true → lo k ≤ x → x < hi k → (x < k ∧ L k = none) ∨ (k < x ∧ R k = none) → k = q := by
    intro k hk g1 g2 g3
    obtain ⟨i, hi⟩ := tSq_on H hx 17 k hk g1 g2 (by omega)
    obtain ⟨j, hj⟩ := tSq_on H hx 17 q hq h1 h2 (by omega)
    rcases Nat.lt_trichotomy i j with z | z | z
    · have := tSq_n (hend k g3 i hi) (j - (i + 1))
      rw [show i + 1 + (j - (i + 1)) = j by omega, hj] at this
      cases this
    · rw [z, hj] at hi
      exact (Option.some.inj hi).symm
    · have := tSq_n (hend q he j hj) (i - (j + 1))
      rw [show j + 1 + (i - (j + 1)) = i by omega, hi] at this
      cases this
  exact fun k hk g1 g2 => ⟨fun z1 z2 => key k hk g1 g2 (Or.inl ⟨z1, z2⟩), fun z1 z2 => key k hk g1 g2 (Or.inr ⟨z1, z2⟩)⟩
section TW
variable {K : Nat → Bool} {ro : Option Nat} {L R P : Nat → Option Nat} {lo hi : Nat → Nat}
theorem tW_rl (H : tW K ro L R P lo hi) {p r : Nat} (hp : K p = true) (hr : R p = some r) : tW K (rlo P ro p r) (rl1 L P p r) (rl2 L R P p r) (rl3 L P p r) (fu lo r (lo p)) (fu hi p r) := by
  obtain ⟨a, b, c, d, e, f, g, h, i⟩ := H
  refine ⟨?_, ?_, ?_, ?_, ?_, ?_, ?_, ?_, ?_⟩
  · grind [rl1, rl2, rl3, fu, rlo]
  · grind [rl1, rl2, rl3, fu, rlo]
  · grind [rl1, rl2, rl3, fu, rlo]
  · grind [rl1, rl2, rl3, fu, rlo]
  · grind [rl1, rl2, rl3, fu, rlo]
  · grind [rl1, rl2, rl3, fu, rlo]
  · grind [rl1, rl2, rl3, fu, rlo]
  · grind [rl1, rl2, rl3, fu, rlo]
  · grind [rl1, rl2, rl3, fu, rlo]
theorem tW_rr (H : tW K ro L R P lo hi) {p r : Nat} (hp : K p = true) (hr : L p = some r) : tW K (rlo P ro p r) (rl2 R L P p r) (rl1 R P p r) (rl3 R P p r) (fu lo p (r + 1)) (fu hi r (hi p)) := by
  obtain ⟨a, b, c, d, e, f, g, h, i⟩ := H
  refine ⟨?_, ?_, ?_, ?_, ?_, ?_, ?_, ?_, ?_⟩
  · grind [rl1, rl2, rl3, fu, rlo]
  · grind [rl1, rl2, rl3, fu, rlo]
  · grind [rl1, rl2, rl3, fu, rlo]
  · grind [rl1, rl2, rl3, fu, rlo]
  · grind [rl1, rl2, rl3, fu, rlo]
  · grind [rl1, rl2, rl3, fu, rlo]
  · grind [rl1, rl2, rl3, fu, rlo]
  · grind [rl1, rl2, rl3, fu, rlo]
  · grind [rl1, rl2, rl3, fu, rlo]
theorem tW_i0 (H : tW K ro L R P lo hi) {x : Nat} (hx : x < 16) (hr : ro = none) : tW (fu K x true) (some x) (fu L x none) (fu R x none) (fu P x none) (fu lo x 0) (fu hi x 16) := by
  obtain ⟨a, b, c, d, e, f, g, h, i⟩ := H
  refine ⟨?_, ?_, ?_, ?_, ?_, ?_, ?_, ?_, ?_⟩
  · grind [fu]
  · grind [fu]
  · grind [fu]
  · grind [fu]
  · grind [fu]
  · grind [fu]
  · grind [fu]
  · grind [fu]
  · grind [fu]
theorem tW_iL (H : tW K ro L R P lo hi) {x q : Nat} (hx : K x = false) (hq : K q = true) (hL : L q = none) (h1 : lo q ≤ x) (h2 : x < q) (hU : tU K L R lo hi x q) : tW (fu K x true) ro (fu (fu L x none) q (some x)) (fu R x none) (fu P x (some q)) (fu lo x (lo q)) (fu hi x q) := by
  obtain ⟨a, b, c, d, e, f, g, h, i⟩ := H
  refine ⟨?_, ?_, ?_, ?_, ?_, ?_, ?_, ?_, ?_⟩
  · grind [fu, tU]
  · grind [fu, tU]
  · grind [fu, tU]
  · intro k j hk hj
    simp only [fu] at hk hj ⊢
    by_cases e1 : k = x <;> by_cases e2 : k = q <;> by_cases e3 : j = x <;> by_cases e4 : j = q <;> grind [tU]
  · intro k j hk hj
    simp only [fu] at hk hj ⊢
    by_cases e1 : k = x <;> by_cases e2 : k = q <;> by_cases e3 : j = x <;> by_cases e4 : j = q <;> grind [tU]
  · intro k j hk hj
    simp only [fu] at hk hj ⊢
    by_cases e1 : k = x <;> by_cases e2 : k = q <;> by_cases e3 : j = x <;> by_cases e4 : j = q <;> grind [tU]
  · grind [fu, tU]
  · intro k hk hl j g1 g2
    simp only [fu] at hk hl g1 g2 ⊢
    by_cases e1 : k = x <;> by_cases e2 : k = q <;> by_cases e3 : j = x <;> by_cases e4 : j = q <;> grind [tU]
  · intro k hk hl j g1 g2
    simp only [fu] at hk hl g1 g2 ⊢
    by_cases e1 : k = x <;> by_cases e2 : k = q <;> by_cases e3 : j = x <;> by_cases e4 : j = q <;> grind [tU]
theorem tW_iR (H : tW K ro L R P lo hi) {x q : Nat} (hx : K x = false) (hq : K q = true) (hR : R q = none) (h1 : q < x) (h2 : x < hi q) (hU : tU K L R lo hi x q) : tW (fu K x true) ro (fu L x none) (fu (fu R x none) q (some x)) (fu P x (some q)) (fu lo x (q + 1)) (fu hi x (hi q)) := by
  obtain ⟨a, b, c, d, e, f, g, h, i⟩ := H
  refine ⟨?_, ?_, ?_, ?_, ?_, ?_, ?_, ?_, ?_⟩
  · grind [fu, tU]
  · grind [fu, tU]
  · grind [fu, tU]
  · intro k j hk hj
    simp only [fu] at hk hj ⊢
    by_cases e1 : k = x <;> by_cases e2 : k = q <;> by_cases e3 : j = x <;> by_cases e4 : j = q <;> grind [tU]
  · intro k j hk hj
    simp only [fu] at hk hj ⊢
    by_cases e1 : k = x <;> by_cases e2 : k = q <;> by_cases e3 : j = x <;> by_cases e4 : j = q <;> grind [tU]
  · intro k j hk hj
    simp only [fu] at hk hj ⊢
    by_cases e1 : k = x <;> by_cases e2 : k = q <;> by_cases e3 : j = x <;> by_cases e4 : j = q <;> grind [tU]
  · grind [fu, tU]
  · intro k hk hl j g1 g2
    simp only [fu] at hk hl g1 g2 ⊢
    by_cases e1 : k = x <;> by_cases e2 : k = q <;> by_cases e3 : j = x <;> by_cases e4 : j = q <;> grind [tU]
  · intro k hk hl j g1 g2
    simp only [fu] at hk hl g1 g2 ⊢
    by_cases e1 : k = x <;> by_cases e2 : k = q <;> by_cases e3 : j = x <;> by_cases e4 : j = q <;> grind [tU]
/-- the least key from i on -/
def tNx (K : Nat → Bool) (i : Nat) (o : Option Nat) : Prop := (o = none → ∀ j, i ≤ j → K j = false) ∧ ∀ k, o = some k → K k = true ∧ i ≤ k ∧ ∀ j, i ≤ j → j < k → K j = false
/-- where the search for x stands -/
def tSr (K : Nat → Bool) (lo hi : Nat → Nat) (x : Nat) (t : Option Nat) : Prop := (t = none → K x = false) ∧ ∀ k, t = some k → K k = true ∧ lo k ≤ x ∧ x < hi k
theorem tSr_0 (H : tW K ro L R P lo hi) {x : Nat} (hx : x < 16) : tSr K lo hi x ro := by
  obtain ⟨a, b, c, d, e, f, g, h, i⟩ := H
  grind [tSr]
theorem tSr_L (H : tW K ro L R P lo hi) {x k : Nat} (hs : tSr K lo hi x (some k)) (hx : x < k) : tSr K lo hi x (L k) := by
  obtain ⟨a, b, c, d, e, f, g, h, i⟩ := H
  grind [tSr]
theorem tSr_R (H : tW K ro L R P lo hi) {x k : Nat} (hs : tSr K lo hi x (some k)) (hx : k < x) : tSr K lo hi x (R k) := by
  obtain ⟨a, b, c, d, e, f, g, h, i⟩ := H
  grind [tSr]
/-- the width of what lies below shrinks -/
theorem tW_wL (H : tW K ro L R P lo hi) {k j : Nat} (hk : K k = true) (hj : L k = some j) : hi j - lo j < hi k - lo k := by
  obtain ⟨a, b, c, d, e, f, g, h, i⟩ := H
  grind
theorem tW_wR (H : tW K ro L R P lo hi) {k j : Nat} (hk : K k = true) (hj : R k = some j) : hi j - lo j < hi k - lo k := by
  obtain ⟨a, b, c, d, e, f, g, h, i⟩ := H
  grind
theorem tW_wP (H : tW K ro L R P lo hi) {k j : Nat} (hk : K k = true) (hj : P k = some j) : hi k - lo k < hi j - lo j := by
  obtain ⟨a, b, c, d, e, f, g, h, i⟩ := H
  grind
theorem tW_16 (H : tW K ro L R P lo hi) {k : Nat} (hk : K k = true) : k < 16 := by
  obtain ⟨a, b, c, d, e, f, g, h, i⟩ := H
  grind
/-- going left from k: the node m has the same lower bound; at the end it is the least key from there on -/
theorem tW_first (H : tW K ro L R P lo hi) {m : Nat} (hm : K m = true) (hL : L m = none) : tNx K (lo m) (some m) := by
  obtain ⟨a, b, c, d, e, f, g, h, i⟩ := H
  grind [tNx]
theorem tW_ro0 (H : tW K ro L R P lo hi) (hr : ro = none) (i : Nat) : tNx K i none := by
  obtain ⟨a, b, c, d, e, f, g, h, i⟩ := H
  grind [tNx]
/-- climbing from k (with nothing on its far side): ch lies below k's upper bound; p is its parent -/
def tCl (K : Nat → Bool) (P : Nat → Option Nat) (hi : Nat → Nat) (k ch : Nat) (p : Option Nat) : Prop := K ch = true ∧ p = P ch ∧ hi ch = hi k
theorem tCl_up (H : tW K ro L R P lo hi) {k ch p : Nat} (hc : tCl K P hi k ch (some p)) (hr : R p = some ch) : tCl K P hi k p (P p) ∧ p < ch := by
  obtain ⟨a, b, c, d, e, f, g, h, i⟩ := H
  grind [tCl]
theorem tCl_e (H : tW K ro L R P lo hi) {k ch p : Nat} (hk : K k = true) (hn : R k = none) (hc : tCl K P hi k ch (some p)) (hr : ¬ R p = some ch) : tNx K (k + 1) (some p) := by
  obtain ⟨a, b, c, d, e, f, g, h, i⟩ := H
  grind [tCl, tNx]
theorem tCl_n (H : tW K ro L R P lo hi) {k ch : Nat} (hk : K k = true) (hn : R k = none) (hc : tCl K P hi k ch none) : tNx K (k + 1) none := by
  obtain ⟨a, b, c, d, e, f, g, h, i⟩ := H
  refine ⟨fun _ j hj => ?_, fun k' z => by cases z⟩
  have h1 : hi k = 16 := by grind [tCl]
  cases hx : K j with
  | false => rfl
  | true =>
    have := (a j hx)
    grind
end TW
