set_option maxRecDepth 100000
/-! PAIRS OF PERSONS AND WORKS: what one search for a further pair does; the number that is reached can't be passed -/
def fRc (P : Nat → Nat → Bool) (p : Nat) : Nat → Nat
  | 0 => 0
  | k + 1 => fRc P p k + (if P p k = true then 1 else 0)
def fDg (P : Nat → Nat → Bool) (w : Nat) : Nat → Nat
  | 0 => 0
  | k + 1 => fDg P w k + (if P k w = true then 1 else 0)
def fSet (P : Nat → Nat → Bool) (p w : Nat) (b : Bool) : Nat → Nat → Bool := fun q v => if q = p ∧ v = w then b else P q v
theorem fSet_s {P : Nat → Nat → Bool} {p w : Nat} {b : Bool} : fSet P p w b p w = b := if_pos ⟨rfl, rfl⟩
theorem fSet_n {P : Nat → Nat → Bool} {p w q v : Nat} {b : Bool} (h : ¬ (q = p ∧ v = w)) : fSet P p w b q v = P q v := if_neg h
theorem fRc_c {P P' : Nat → Nat → Bool} {p : Nat} (h : ∀ v, P' p v = P p v) (k : Nat) : fRc P' p k = fRc P p k := by
  induction k with
  | zero => rfl
  | succ k ih => rw [fRc, fRc, ih, h k]
theorem fDg_c {P P' : Nat → Nat → Bool} {w : Nat} (h : ∀ q, P' q w = P q w) (k : Nat) : fDg P' w k = fDg P w k := by
  induction k with
  | zero => rfl
  | succ k ih => rw [fDg, fDg, ih, h k]
theorem fRc_on {P : Nat → Nat → Bool} {p w : Nat} (h0 : P p w = false) (k : Nat) : fRc (fSet P p w true) p k = fRc P p k + (if w < k then 1 else 0) := by
  induction k with
  | zero => simp [fRc]
  | succ k ih =>
    rw [fRc, fRc, ih]
    by_cases hk : k = w
    · subst hk
      rw [fSet_s, h0]
      simp
    · rw [fSet_n (fun z => hk z.2)]
      by_cases h1 : w < k
      · rw [if_pos h1, if_pos (show w < k + 1 by omega)]; omega
      · rw [if_neg h1, if_neg (show ¬ w < k + 1 by omega)]; omega
theorem fDg_on {P : Nat → Nat → Bool} {p w : Nat} (h0 : P p w = false) (k : Nat) : fDg (fSet P p w true) w k = fDg P w k + (if p < k then 1 else 0) := by
  induction k with
  | zero => simp [fDg]
  | succ k ih =>
    rw [fDg, fDg, ih]
    by_cases hk : k = p
    · subst hk
      rw [fSet_s, h0]
      simp
    · rw [fSet_n (fun z => hk z.1)]
      by_cases h1 : p < k
      · rw [if_pos h1, if_pos (show p < k + 1 by omega)]; omega
      · rw [if_neg h1, if_neg (show ¬ p < k + 1 by omega)]; omega
theorem fSet_back {P : Nat → Nat → Bool} {p w : Nat} (h : P p w = true) : fSet (fSet P p w false) p w true = P := by
  funext q v
  by_cases hq : q = p ∧ v = w
  · obtain ⟨rfl, rfl⟩ := hq
    rw [fSet_s, h]
  · rw [fSet_n hq, fSet_n hq]
theorem fRc_off {P : Nat → Nat → Bool} {p w n : Nat} (h : P p w = true) (hw : w < n) : fRc (fSet P p w false) p n + 1 = fRc P p n := by
  have h1 := fRc_on (P := fSet P p w false) (p := p) (w := w) fSet_s n
  rw [fSet_back h, if_pos hw] at h1
  omega
theorem fDg_off {P : Nat → Nat → Bool} {p w n : Nat} (h : P p w = true) (hp : p < n) : fDg (fSet P p w false) w n + 1 = fDg P w n := by
  have h1 := fDg_on (P := fSet P p w false) (p := p) (w := w) fSet_s n
  rw [fSet_back h, if_pos hp] at h1
  omega
/-- pairs lie within n, are of foreign ones, and no person has more than lim -/
def fVal (n lim : Nat) (fo P : Nat → Nat → Bool) : Prop := (∀ p w, P p w = true → p < n ∧ w < n ∧ fo p w = true) ∧ ∀ p, p < n → fRc P p n ≤ lim
/-- whoever could be paired with w is in R -/
def fWR (n : Nat) (fo : Nat → Nat → Bool) (R : Nat → Prop) (P : Nat → Nat → Bool) (w : Nat) : Prop := ∀ q, q < n → fo q w = true → P q w = false → R q
/-- R is full, and so are those who could take its works -/
def fCl (n lim : Nat) (fo : Nat → Nat → Bool) (R : Nat → Prop) (P : Nat → Nat → Bool) : Prop := ∀ p, p < n → R p → fRc P p n = lim ∧ ∀ w, w < n → P p w = true → fWR n fo R P w
def fSub (T T' : Nat → Bool) : Prop := ∀ q, T q = true → T' q = true
def fNew (n lim : Nat) (fo P : Nat → Nat → Bool) (T T' : Nat → Bool) : Prop := ∀ q, T' q = true → T q = false → q < n ∧ fRc P q n = lim ∧ ∀ w, w < n → P q w = true → fWR n fo (fun x => T' x = true) P w
def fNo (n lim : Nat) (fo : Nat → Nat → Bool) (w : Nat) (P : Nat → Nat → Bool) (T : Nat → Bool) (P' : Nat → Nat → Bool) (T' : Nat → Bool) : Prop := P' = P ∧ fSub T T' ∧ fNew n lim fo P T T' ∧ fWR n fo (fun x => T' x = true) P w
/-- what stays: the closed sets' rows, the columns of the works that they close -/
def fKp (n lim : Nat) (fo P P' : Nat → Nat → Bool) (R : Nat → Prop) : Prop := (∀ q, q < n → R q → ∀ v, P' q v = P q v) ∧ ∀ v, v < n → fWR n fo R P v → ∀ q, P' q v = P q v
def fYes (n lim : Nat) (fo : Nat → Nat → Bool) (w : Nat) (P : Nat → Nat → Bool) (T : Nat → Bool) (P' : Nat → Nat → Bool) (T' : Nat → Bool) : Prop :=
  fVal n lim fo P' ∧ fSub T T' ∧ (∀ q, T q = true → ∀ v, P' q v = P q v) ∧ fDg P' w n = fDg P w n + 1 ∧ (∀ v, v ≠ w → fDg P' v n = fDg P v n) ∧ ∀ R, fCl n lim fo R P → ¬ fWR n fo R P w ∧ fKp n lim fo P P' R
def fYNo (n lim : Nat) (fo : Nat → Nat → Bool) (p : Nat) (P : Nat → Nat → Bool) (T : Nat → Bool) (P' : Nat → Nat → Bool) (T' : Nat → Bool) : Prop := P' = P ∧ fSub T T' ∧ fNew n lim fo P T T' ∧ ∀ w, w < n → P p w = true → fWR n fo (fun x => T' x = true) P w
def fYYes (n lim : Nat) (fo : Nat → Nat → Bool) (p : Nat) (P : Nat → Nat → Bool) (T : Nat → Bool) (P' : Nat → Nat → Bool) (T' : Nat → Bool) : Prop :=
  fVal n lim fo P' ∧ fSub T T' ∧ (∀ q, T q = true → q ≠ p → ∀ v, P' q v = P q v) ∧ (∀ v, P p v = false → P' p v = false) ∧ fRc P' p n + 1 = fRc P p n ∧ (∀ v, fDg P' v n = fDg P v n) ∧ ∀ R, fCl n lim fo R P → ¬ R p ∧ fKp n lim fo P P' R
def fAdd (T : Nat → Bool) (p : Nat) : Nat → Bool := fun q => if q = p then true else T q
theorem fAdd_sub {T : Nat → Bool} {p : Nat} : fSub T (fAdd T p) := fun q h => by
  by_cases hq : q = p
  · exact if_pos hq
  · rw [fAdd, if_neg hq]; exact h
theorem fSub.tr {T T' T2 : Nat → Bool} (h : fSub T T') (h' : fSub T' T2) : fSub T T2 := fun q z => h' q (h q z)
theorem fSub.rf {T : Nat → Bool} : fSub T T := fun _ z => z
theorem fWR.mono {n : Nat} {fo P : Nat → Nat → Bool} {R R' : Nat → Prop} {w : Nat} (h : fWR n fo R P w) (hR : ∀ q, R q → R' q) : fWR n fo R' P w := fun q h1 h2 h3 => hR q (h q h1 h2 h3)
section FL
variable {n lim : Nat} {fo P : Nat → Nat → Bool} {T : Nat → Bool} {p w : Nat}
theorem fVal_on (hV : fVal n lim fo P) (hp : p < n) (hw : w < n) (hf : fo p w = true) (h0 : P p w = false) (hl : fRc P p n < lim) : fVal n lim fo (fSet P p w true) := by
  refine ⟨fun q v h => ?_, fun q hq => ?_⟩
  · by_cases hq : q = p ∧ v = w
    · obtain ⟨rfl, rfl⟩ := hq
      exact ⟨hp, hw, hf⟩
    · rw [fSet_n hq] at h
      exact hV.1 q v h
  · by_cases hqp : q = p
    · subst hqp
      rw [fRc_on h0, if_pos hw]
      exact hl
    · rw [fRc_c (fun v => fSet_n (fun z => hqp z.1))]
      exact hV.2 q hq
/-- a person with room left takes the work -/
theorem fYes_now (hV : fVal n lim fo P) (hp : p < n) (hw : w < n) (hf : fo p w = true) (h0 : P p w = false) (hT : T p = false) (hl : fRc P p n < lim) : fYes n lim fo w P T (fSet P p w true) (fAdd T p) := by
  refine ⟨fVal_on hV hp hw hf h0 hl, fAdd_sub, fun q hq v => fSet_n (fun z => by rw [z.1, hT] at hq; cases hq), ?_, fun v hv => fDg_c (fun q => fSet_n (fun z => hv z.2)) n, fun R hR => ?_⟩
  · rw [fDg_on h0, if_pos hp]
  · have hRp : ¬ R p := fun z => by
      have := (hR p hp z).1
      omega
    have hWw : ¬ fWR n fo R P w := fun z => hRp (z p hp hf h0)
    exact ⟨hWw, fun q _ hq v => fSet_n (fun z => hRp (z.1 ▸ hq)), fun v _ hv q => fSet_n (fun z => hWw (z.2 ▸ hv))⟩
/-- a full person passes one on, and takes the work -/
theorem fYes_by {P2 : Nat → Nat → Bool} {T2 : Nat → Bool} (hV : fVal n lim fo P) (hp : p < n) (hw : w < n) (hf : fo p w = true) (h0 : P p w = false) (hT : T p = false) (h : fYYes n lim fo p P (fAdd T p) P2 T2) : fYes n lim fo w P T (fSet P2 p w true) T2 := by
  obtain ⟨a1, a2, a3, a4, a5, a6, a7⟩ := h
  have h2 := a4 w h0
  have hl : fRc P2 p n < lim := by
    have := hV.2 p hp
    omega
  refine ⟨fVal_on a1 hp hw hf h2 hl, fAdd_sub.tr a2, fun q hq v => ?_, ?_, fun v hv => ?_, fun R hR => ?_⟩
  · have hqp : q ≠ p := fun z => by rw [z, hT] at hq; cases hq
    rw [fSet_n (fun z => hqp z.1)]
    exact a3 q (fAdd_sub q hq) hqp v
  · rw [fDg_on h2, if_pos hp, a6 w]
  · rw [fDg_c (fun q => fSet_n (fun z => hv z.2)) n, a6 v]
  · obtain ⟨hRp, k1, k2⟩ := a7 R hR
    have hWw : ¬ fWR n fo R P w := fun z => hRp (z p hp hf h0)
    refine ⟨hWw, fun q h1 hq v => ?_, fun v h1 hv q => ?_⟩
    · have hz : ¬ (q = p ∧ v = w) := fun z => hRp (z.1 ▸ hq)
      rw [fSet_n hz]
      exact k1 q h1 hq v
    · have hz : ¬ (q = p ∧ v = w) := fun z => hWw (z.2 ▸ hv)
      rw [fSet_n hz]
      exact k2 v h1 hv q
/-- a person passes the work w on -/
theorem fYYes_by {P1 : Nat → Nat → Bool} {T1 : Nat → Bool} (hp : p < n) (hw : w < n) (h1 : P p w = true) (hT : T p = true) (h : fYes n lim fo w P T P1 T1) : fYYes n lim fo p P T (fSet P1 p w false) T1 := by
  obtain ⟨a1, a2, a3, a4, a5, a6⟩ := h
  have hP1 : P1 p w = true := by rw [a3 p hT w]; exact h1
  have hrow := fRc_off hP1 hw
  refine ⟨⟨fun q v h => ?_, fun q hq => ?_⟩, a2, fun q hq hqp v => ?_, fun v hv => ?_, ?_, fun v => ?_, fun R hR => ?_⟩
  · by_cases hq : q = p ∧ v = w
    · rw [hq.1, hq.2, fSet_s] at h
      cases h
    · rw [fSet_n hq] at h
      exact a1.1 q v h
  · by_cases hqp : q = p
    · subst hqp
      have := a1.2 q hq
      omega
    · rw [fRc_c (fun v => fSet_n (fun z => hqp z.1))]
      exact a1.2 q hq
  · rw [fSet_n (fun z => hqp z.1)]
    exact a3 q hq v
  · by_cases hvw : v = w
    · rw [hvw, fSet_s]
    · rw [fSet_n (fun z => hvw z.2), a3 p hT v]
      exact hv
  · rw [← fRc_c (a3 p hT) n]
    exact hrow
  · by_cases hvw : v = w
    · subst hvw
      have := fDg_off hP1 hp
      omega
    · rw [fDg_c (fun q => fSet_n (fun z => hvw z.2)) n]
      exact a5 v hvw
  · obtain ⟨k0, k1, k2⟩ := a6 R hR
    have hRp : ¬ R p := fun z => k0 ((hR p hp z).2 w hw h1)
    refine ⟨hRp, fun q h2 hq v => ?_, fun v h2 hv q => ?_⟩
    · have hz : ¬ (q = p ∧ v = w) := fun z => hRp (z.1 ▸ hq)
      rw [fSet_n hz]
      exact k1 q h2 hq v
    · have hz : ¬ (q = p ∧ v = w) := fun z => k0 (z.2 ▸ hv)
      rw [fSet_n hz]
      exact k2 v h2 hv q
theorem fNew.rf : fNew n lim fo P T T := fun q h1 h2 => by rw [h1] at h2; cases h2
theorem fNew.tr {T' T2 : Nat → Bool} (h : fNew n lim fo P T T') (h' : fNew n lim fo P T' T2) (hs : fSub T' T2) : fNew n lim fo P T T2 := by
  intro q h1 h2
  cases h3 : T' q with
  | false => exact h' q h1 h3
  | true =>
    obtain ⟨g1, g2, g3⟩ := h q h3 h2
    exact ⟨g1, g2, fun w hw hP => (g3 w hw hP).mono (fun x hx => hs x hx)⟩
/-- a full person that couldn't pass anything on is tried in vain -/
theorem fNew_p {T2 : Nat → Bool} (hp : p < n) (hfull : fRc P p n = lim) (hy : fYNo n lim fo p P (fAdd T p) P T2) : fNew n lim fo P T T2 := by
  obtain ⟨-, h1, h2, h3⟩ := hy
  intro q g1 g2
  by_cases hq : q = p
  · subst hq
    exact ⟨hp, hfull, fun w hw hP => h3 w hw hP⟩
  · exact h2 q g1 (by rw [fAdd, if_neg hq]; exact g2)
/-- how many are untried -/
def fUn (T : Nat → Bool) : Nat → Nat
  | 0 => 0
  | k + 1 => fUn T k + (if T k = true then 0 else 1)
theorem fUn_sub {T T' : Nat → Bool} (h : fSub T T') (k : Nat) : fUn T' k ≤ fUn T k := by
  induction k with
  | zero => exact Nat.le_refl _
  | succ k ih =>
    rw [fUn, fUn]
    cases hT : T k with
    | true => rw [h k hT]; simpa using ih
    | false => cases T' k <;> simp <;> omega
theorem fUn_add {T : Nat → Bool} {p : Nat} (hT : T p = false) (k : Nat) (hp : p < k) : fUn (fAdd T p) k + 1 = fUn T k := by
  induction k with
  | zero => omega
  | succ k ih =>
    rw [fUn, fUn]
    by_cases hk : k = p
    · subst hk
      have e : ∀ j, j ≤ k → fUn (fAdd T k) j = fUn T j := by
        intro j hj
        induction j with
        | zero => rfl
        | succ j ihj => rw [fUn, fUn, ihj (by omega), fAdd, if_neg (show ¬ j = k by omega)]
      rw [e k (Nat.le_refl _), hT, fAdd, if_pos rfl]
      simp
    · have := ih (by omega)
      rw [fAdd, if_neg hk]
      omega
theorem fUn_le (T : Nat → Bool) (k : Nat) : fUn T k ≤ k := by
  induction k with
  | zero => exact Nat.le_refl _
  | succ k ih =>
    rw [fUn]
    split <;> omega
theorem fUn_pos {T : Nat → Bool} {p k : Nat} (hT : T p = false) (hp : p < k) : 0 < fUn T k := by
  have := fUn_add hT k hp
  omega
end FL
/-! no more pairs than that -/
def nS (f : Nat → Nat) : Nat → Nat
  | 0 => 0
  | k + 1 => nS f k + f k
def bn (b : Bool) : Nat := if b = true then 1 else 0
theorem nS_le {f f' : Nat → Nat} {n : Nat} (h : ∀ j, j < n → f j ≤ f' j) : nS f n ≤ nS f' n := by
  induction n with
  | zero => exact Nat.le_refl _
  | succ n ih => exact Nat.add_le_add (ih (fun j hj => h j (by omega))) (h n (by omega))
theorem nS_eq {f f' : Nat → Nat} {n : Nat} (h : ∀ j, j < n → f j = f' j) : nS f n = nS f' n := by
  induction n with
  | zero => rfl
  | succ n ih => rw [nS, nS, ih (fun j hj => h j (by omega)), h n (by omega)]
theorem nS_add {f f' : Nat → Nat} (n : Nat) : nS (fun j => f j + f' j) n = nS f n + nS f' n := by
  induction n with
  | zero => rfl
  | succ n ih => rw [nS, nS, nS, ih]; omega
theorem nS_0 (n : Nat) : nS (fun _ => 0) n = 0 := by
  induction n with
  | zero => rfl
  | succ n ih => rw [nS, ih]
theorem nS_swap (f : Nat → Nat → Nat) (n k : Nat) : nS (fun w => nS (fun q => f q w) n) k = nS (fun q => nS (fun w => f q w) k) n := by
  induction k with
  | zero => exact (nS_0 n).symm
  | succ k ih =>
    rw [nS, ih]
    exact (nS_add n).symm
theorem fDg_S (P : Nat → Nat → Bool) (w k : Nat) : fDg P w k = nS (fun q => bn (P q w)) k := by
  induction k with
  | zero => rfl
  | succ k ih => rw [fDg, nS, ih]; rfl
theorem fRc_S (P : Nat → Nat → Bool) (p k : Nat) : fRc P p k = nS (fun w => bn (P p w)) k := by
  induction k with
  | zero => rfl
  | succ k ih => rw [fRc, nS, ih]; rfl
theorem fOpt {n lim cap : Nat} {fo P Y : Nat → Nat → Bool} {th R : Nat → Bool} (hV : fVal n lim fo P) (hR : fCl n lim fo (fun q => R q = true) P)
    (hW : ∀ w, w < n → (th w = true ∧ (fDg P w n = cap ∨ fWR n fo (fun q => R q = true) P w)) ∨ (th w = false ∧ fDg P w n = 0))
    (hY : fVal n lim fo Y) (hYd : ∀ w, w < n → fDg Y w n ≤ if th w = true then cap else 0) : nS (fun w => fDg Y w n) n ≤ nS (fun w => fDg P w n) n := by
  obtain ⟨S, hS⟩ : ∃ S : Nat → Bool, ∀ w, S w = true ↔ fWR n fo (fun q => R q = true) P w := ⟨fun w => @decide _ (Classical.propDecidable (fWR n fo (fun q => R q = true) P w)), fun w => @decide_eq_true_iff _ (Classical.propDecidable _)⟩
  have c1 : ∀ w, w < n → fDg Y w n ≤ nS (fun q => bn (S w && (R q && Y q w))) n + (if S w = true then nS (fun q => bn (!R q && P q w)) n else fDg P w n) := by
    intro w hw
    cases hs : S w with
    | true =>
      rw [if_pos rfl, fDg_S, ← nS_add]
      refine nS_le (fun q hq => ?_)
      cases hy : Y q w with
      | false => simp [bn]
      | true =>
        cases hr : R q with
        | true => simp [bn]
        | false =>
          have hp : P q w = true := by
            cases hp : P q w with
            | true => rfl
            | false => exact absurd ((hS w).mp hs q hq (hY.1 q w hy).2.2 hp) (by show ¬ (R q = true); rw [hr]; decide)
          simp [bn, hp]
    | false =>
      have h1 := hYd w hw
      have h2 : fDg P w n = (if th w = true then cap else 0) := by
        rcases hW w hw with ⟨h3, h4 | h4⟩ | ⟨h3, h4⟩
        · rw [if_pos h3]; exact h4
        · rw [(hS w).mpr h4] at hs; cases hs
        · rw [h3]; exact h4
      simp only [Bool.false_eq_true, if_false]
      omega
  have c2 : nS (fun w => nS (fun q => bn (S w && (R q && Y q w))) n) n ≤ nS (fun w => nS (fun q => bn (S w && (R q && P q w))) n) n := by
    rw [nS_swap (fun q w => bn (S w && (R q && Y q w))), nS_swap (fun q w => bn (S w && (R q && P q w)))]
    refine nS_le (fun q hq => ?_)
    cases hr : R q with
    | false =>
      refine nS_le (fun w hw => ?_)
      simp [bn]
    | true =>
      have h1 : nS (fun w => bn (S w && (true && Y q w))) n ≤ lim := by
        refine Nat.le_trans (nS_le (f' := fun w => bn (Y q w)) (fun w hw => ?_)) (by rw [← fRc_S]; exact hY.2 q hq)
        cases S w <;> cases Y q w <;> simp [bn]
      have h2 : nS (fun w => bn (S w && (true && P q w))) n = lim := by
        rw [← (hR q hq hr).1, fRc_S]
        refine nS_eq (fun w hw => ?_)
        cases hp : P q w with
        | false => simp
        | true => simp [(hS w).mpr ((hR q hq hr).2 w hw hp)]
      omega
  have c3 : nS (fun w => fDg Y w n) n ≤ nS (fun w => nS (fun q => bn (S w && (R q && P q w))) n) n + nS (fun w => if S w = true then nS (fun q => bn (!R q && P q w)) n else fDg P w n) n := by
    refine Nat.le_trans (nS_le c1) ?_
    rw [nS_add]
    exact Nat.add_le_add_right c2 _
  refine Nat.le_trans c3 (Nat.le_of_eq ?_)
  rw [← nS_add]
  refine nS_eq (fun w hw => ?_)
  cases hs : S w with
  | true =>
    rw [if_pos rfl, fDg_S, ← nS_add]
    refine nS_eq (fun q hq => ?_)
    cases R q <;> cases P q w <;> simp [bn]
  | false =>
    simp only [Bool.false_and, Bool.false_eq_true, if_false]
    show nS (fun _ => bn false) n + _ = _
    rw [show (fun _ : Nat => bn false) = (fun _ => 0) from rfl, nS_0, Nat.zero_add]
/-! one work after the other -/
theorem fCl_kp {n lim : Nat} {fo P P' : Nat → Nat → Bool} {R : Nat → Prop} (h : fCl n lim fo R P) (k : fKp n lim fo P P' R) : fCl n lim fo R P' ∧ ∀ v, v < n → fWR n fo R P v → fWR n fo R P' v := by
  obtain ⟨k1, k2⟩ := k
  have hw : ∀ v, v < n → fWR n fo R P v → fWR n fo R P' v := fun v hv hz q h1 h2 h3 => hz q h1 h2 (by rw [← k2 v hv hz q]; exact h3)
  refine ⟨fun p hp hr => ?_, hw⟩
  obtain ⟨g1, g2⟩ := h p hp hr
  refine ⟨by rw [fRc_c (k1 p hp hr)]; exact g1, fun w hwn hP => hw w hwn (g2 w hwn (by rw [← k1 p hp hr w]; exact hP))⟩
def fInv (n lim : Nat) (fo : Nat → Nat → Bool) (th : Nat → Bool) (P : Nat → Nat → Bool) (att : Nat → Nat) : Prop :=
  fVal n lim fo P ∧ ∃ R : Nat → Bool, fCl n lim fo (fun q => R q = true) P ∧ ∀ w, w < n → fDg P w n ≤ att w ∧ (th w = true → fDg P w n = att w ∨ fWR n fo (fun q => R q = true) P w) ∧ (th w = false → fDg P w n = 0)
def fInc (att : Nat → Nat) (w : Nat) : Nat → Nat := fun v => if v = w then att v + 1 else att v
theorem nS_1 {f f' : Nat → Nat} {w n : Nat} (hw : w < n) (h1 : f' w = f w + 1) (h2 : ∀ v, v ≠ w → f' v = f v) : nS f' n = nS f n + 1 := by
  induction n with
  | zero => omega
  | succ n ih =>
    rw [nS, nS]
    by_cases hn : w = n
    · subst hn
      rw [h1, nS_eq (fun j hj => h2 j (by omega))]
      omega
    · rw [ih (by omega), h2 n (fun z => hn z.symm)]
      omega
theorem fInv_yes {n lim : Nat} {fo P P' : Nat → Nat → Bool} {th : Nat → Bool} {att : Nat → Nat} {w : Nat} {T T' : Nat → Bool} (h : fInv n lim fo th P att) (hw : w < n) (ht : th w = true) (hy : fYes n lim fo w P T P' T') :
    fInv n lim fo th P' (fInc att w) ∧ nS (fun v => fDg P' v n) n = nS (fun v => fDg P v n) n + 1 := by
  obtain ⟨h1, R, h2, h3⟩ := h
  obtain ⟨y1, y2, y3, y4, y5, y6⟩ := hy
  obtain ⟨z1, z2⟩ := y6 _ h2
  obtain ⟨z3, z4⟩ := fCl_kp h2 z2
  refine ⟨⟨y1, R, z3, fun v hv => ?_⟩, nS_1 hw y4 y5⟩
  obtain ⟨g1, g2, g3⟩ := h3 v hv
  by_cases hvw : v = w
  · subst hvw
    have e : fInc att v v = att v + 1 := if_pos rfl
    have e2 : fDg P v n = att v := (g2 ht).resolve_right z1
    rw [y4, e, e2]
    exact ⟨Nat.le_refl _, fun _ => Or.inl rfl, fun z => by rw [ht] at z; cases z⟩
  · have e : fInc att w v = att v := if_neg hvw
    rw [y5 v hvw, e]
    exact ⟨g1, fun z => (g2 z).imp id (z4 v hv), g3⟩
theorem fInv_no {n lim : Nat} {fo P P' : Nat → Nat → Bool} {th : Nat → Bool} {att : Nat → Nat} {w : Nat} {T T' : Nat → Bool} (h : fInv n lim fo th P att) (hw : w < n) (ht : th w = true) (hT : ∀ q, q < n → T q = false) (hn : fNo n lim fo w P T P' T') : fInv n lim fo th P' (fInc att w) ∧ P' = P := by
  obtain ⟨h1, R, h2, h3⟩ := h
  obtain ⟨rfl, n2, n3, n4⟩ := hn
  refine ⟨⟨h1, fun q => R q || T' q, fun p hp hr => ?_, fun v hv => ?_⟩, rfl⟩
  · cases hR : R p with
    | true =>
      obtain ⟨g1, g2⟩ := h2 p hp hR
      exact ⟨g1, fun v hv hP => (g2 v hv hP).mono (fun q hq => by show (R q || T' q) = true; rw [show R q = true from hq]; rfl)⟩
    | false =>
      have hT' : T' p = true := by
        have hr : (R p || T' p) = true := hr
        rw [hR] at hr
        simpa using hr
      obtain ⟨-, g1, g2⟩ := n3 p hT' (hT p hp)
      exact ⟨g1, fun v hv hP => (g2 v hv hP).mono (fun q hq => by show (R q || T' q) = true; rw [show T' q = true from hq]; simp)⟩
  · obtain ⟨g1, g2, g3⟩ := h3 v hv
    have up : ∀ v, fWR n fo (fun q => R q = true) P' v → fWR n fo (fun q => (R q || T' q) = true) P' v := fun v h => h.mono (fun q hq => by rw [show R q = true from hq]; rfl)
    by_cases hvw : v = w
    · subst hvw
      have e : fInc att v v = att v + 1 := if_pos rfl
      rw [e]
      exact ⟨by omega, fun _ => Or.inr (n4.mono (fun q hq => by show (R q || T' q) = true; rw [show T' q = true from hq]; simp)), fun z => by rw [ht] at z; cases z⟩
    · have e : fInc att w v = att v := if_neg hvw
      rw [e]
      exact ⟨g1, fun z => (g2 z).imp id (up v), g3⟩
theorem fInv_0 {n lim : Nat} {fo : Nat → Nat → Bool} {th : Nat → Bool} : fInv n lim fo th (fun _ _ => false) (fun _ => 0) ∧ nS (fun v => fDg (fun _ _ => false) v n) n = 0 := by
  have e : ∀ v k, fDg (fun _ _ => false) v k = 0 := by
    intro v k
    induction k with
    | zero => rfl
    | succ k ih => rw [fDg, ih]; rfl
  have e2 : ∀ v k, fRc (fun _ _ => false) v k = 0 := by
    intro v k
    induction k with
    | zero => rfl
    | succ k ih => rw [fRc, ih]; rfl
  refine ⟨⟨⟨fun p w h => (nomatch h), fun p hp => (by rw [e2]; exact Nat.zero_le _)⟩, fun _ => false, fun p hp hr => (nomatch hr), fun w hw => ⟨by rw [e]; exact Nat.le_refl _, fun _ => Or.inl (e w n), fun _ => e w n⟩⟩, ?_⟩
  rw [nS_eq (fun j _ => e j n), nS_0]
/-- the number is told by the people, the works, cap and lim alone -/
theorem fEq {n lim cap : Nat} {fo P Y : Nat → Nat → Bool} {th : Nat → Bool} {a b : Nat → Nat} (hP : fInv n lim fo th P a) (hY : fInv n lim fo th Y b) (ha : ∀ w, w < n → th w = true → a w = cap) (hb : ∀ w, w < n → th w = true → b w = cap) : nS (fun w => fDg P w n) n = nS (fun w => fDg Y w n) n := by
  have key : ∀ {P Y : Nat → Nat → Bool} {a b : Nat → Nat}, fInv n lim fo th P a → fInv n lim fo th Y b → (∀ w, w < n → th w = true → a w = cap) → (∀ w, w < n → th w = true → b w = cap) → nS (fun w => fDg Y w n) n ≤ nS (fun w => fDg P w n) n := by
    intro P Y a b ⟨h1, R, h2, h3⟩ ⟨g1, R', g2, g3⟩ ha hb
    refine fOpt (cap := cap) (th := th) h1 h2 (fun w hw => ?_) g1 (fun w hw => ?_)
    · obtain ⟨q1, q2, q3⟩ := h3 w hw
      cases ht : th w with
      | true =>
        refine Or.inl ⟨rfl, ?_⟩
        rw [← ha w hw ht]
        exact q2 ht
      | false => exact Or.inr ⟨rfl, q3 ht⟩
    · obtain ⟨q1, q2, q3⟩ := g3 w hw
      cases ht : th w with
      | true =>
        rw [if_pos rfl, ← hb w hw ht]
        exact q1
      | false => rw [q3 ht]; exact Nat.zero_le _
  exact Nat.le_antisymm (key hY hP hb ha) (key hP hY ha hb)
