set_option maxRecDepth 100000
/-! WHAT THE REFERENCE'S ANSWERS DEPEND ON: the cells of the fields 1 .. 13 -/
def mEq (σ σ' : Nat → Nat → Int32) : Prop := ∀ k, 1 ≤ k → k ≤ 13 → σ k = σ' k
theorem mEq.rf {σ : Nat → Nat → Int32} : mEq σ σ := fun _ _ _ => rfl
theorem mEq.sym {σ σ' : Nat → Nat → Int32} (h : mEq σ σ') : mEq σ' σ := fun k h1 h2 => (h k h1 h2).symm
theorem mEq.tr {σ σ' σ2 : Nat → Nat → Int32} (h : mEq σ σ') (h' : mEq σ' σ2) : mEq σ σ2 := fun k h1 h2 => (h k h1 h2).trans (h' k h1 h2)
theorem mEq.zku {σ σ' : Nat → Nat → Int32} (h : mEq σ σ') (k : Nat) (f : Nat → Int32) : mEq (zk σ k f) (zk σ' k f) := fun q h1 h2 => by
  by_cases hq : q = k
  · rw [hq, zk_s, zk_s]
  · rw [zk_n hq, zk_n hq, h q h1 h2]
theorem mEq.scr {σ σ' : Nat → Nat → Int32} (h : mEq σ σ') {k : Nat} (hk : 14 ≤ k) (f : Nat → Int32) : mEq (zk σ k f) σ' := fun q h1 h2 => by
  rw [zk_n (by omega), h q h1 h2]
section MC
variable {σ σ' : Nat → Nat → Int32} {n : Nat}
theorem isWB_c (h : mEq σ σ') {x : Int32} : isWB n σ x = isWB n σ' x := by
  simp only [isWB, h 2 (by decide) (by decide)]
theorem mFor_c (h : mEq σ σ') {p w : Nat} : mFor σ p w = mFor σ' p w := by
  simp only [mFor, h 1 (by decide) (by decide)]
theorem mMay_c (h : mEq σ σ') {p w : Nat} : mMay σ p w = mMay σ' p w := by
  simp only [mMay, mFor_c h, h 7 (by decide) (by decide), h 8 (by decide) (by decide)]
theorem mLoad_c (h : mEq σ σ') {p : Nat} : mLoad n σ p = mLoad n σ' p := by
  simp only [mLoad, h 7 (by decide) (by decide)]
theorem mReaders_c (h : mEq σ σ') {p : Nat} : mReaders n σ p = mReaders n σ' p := by
  simp only [mReaders, h 7 (by decide) (by decide)]
theorem mWorks_c (h : mEq σ σ') : mWorks n σ = mWorks n σ' := by
  simp only [mWorks, h 2 (by decide) (by decide)]
theorem mRev_c (h : mEq σ σ') {p w : Nat} : mRev σ p w = mRev σ' p w := by
  simp only [mRev, h 10 (by decide) (by decide)]
theorem mReviews_c (h : mEq σ σ') {w : Nat} : mReviews n σ w = mReviews n σ' w := by
  simp only [mReviews, mRev_c h]
theorem mCounts_c (h : mEq σ σ') {p w : Nat} : mCounts σ p w = mCounts σ' p w := by
  simp only [mCounts, h 10 (by decide) (by decide), h 9 (by decide) (by decide), h 12 (by decide) (by decide), h 11 (by decide) (by decide), h 3 (by decide) (by decide)]
theorem mNear_c (h : mEq σ σ') {p w : Nat} {a b : Int32} : mNear σ p w a b = mNear σ' p w a b := by
  simp only [mNear, h 10 (by decide) (by decide)]
theorem mAll_c (h : mEq σ σ') {w : Nat} {a b : Int32} : mAll n σ w a b = mAll n σ' w a b := by
  simp only [mAll, mNear_c h, mCounts_c h]
theorem mBelow_c (h : mEq σ σ') {w : Nat} {x a b : Int32} : mBelow n σ w x a b = mBelow n σ' w x a b := by
  simp only [mBelow, mNear_c h, mCounts_c h, h 10 (by decide) (by decide)]
theorem mMedK_c (h : mEq σ σ') {w : Nat} {a b : Int32} (k : Nat) : mMedK n σ w a b k = mMedK n σ' w a b k := by
  induction k with
  | zero => rfl
  | succ k ih => simp only [mMedK, ih, mNear_c h, mAll_c h, mBelow_c h, h 10 (by decide) (by decide)]
theorem mMed_c (h : mEq σ σ') {w : Nat} {a b : Int32} : mMed n σ w a b = mMed n σ' w a b := mMedK_c h n
theorem mAllow_c (h : mEq σ σ') {w : Nat} : mAllow n σ w = mAllow n σ' w := by
  simp only [mAllow, mReviews_c h, h 13 (by decide) (by decide)]
theorem mMark_c (h : mEq σ σ') {w : Nat} : mMark n σ w = mMark n σ' w := by
  simp only [mMark, mMed_c h, mAllow_c h]
theorem mPlain_c (h : mEq σ σ') {p : Nat} : mPlain σ p = mPlain σ' p := by
  simp only [mPlain, h 4 (by decide) (by decide), h 5 (by decide) (by decide)]
theorem mBet_c (h : mEq σ σ') {b : Bool} {p q : Nat} : mBet b n σ p q = mBet b n σ' p q := by
  simp only [mBet, mLoad_c h, h 3 (by decide) (by decide)]
theorem mCh_c (h : mEq σ σ') {b : Bool} {w : Nat} (k : Nat) : mCh b n σ w k = mCh b n σ' w k := by
  induction k with
  | zero => rfl
  | succ k ih => simp only [mCh, ih, mMay_c h, mBet_c h]
theorem mFr_c (h : mEq σ σ') {p : Nat} {fo fo' : Nat → Int32} (k : Nat) (hf : ∀ j, j < k → fo j = fo' j) : mFr σ p fo k = mFr σ' p fo' k := by
  induction k with
  | zero => simp only [mFr, h 4 (by decide) (by decide), h 5 (by decide) (by decide)]
  | succ k ih => simp only [mFr, ih (fun j hj => hf j (by omega)), h 10 (by decide) (by decide), hf k (by omega)]
theorem mFresh_c (h : mEq σ σ') {p : Nat} {fo fo' : Nat → Int32} (hf : ∀ j, j < n → fo j = fo' j) : mFresh n σ p fo = mFresh n σ' p fo' := by
  simp only [mFresh, mFr_c h n hf, h 3 (by decide) (by decide)]
theorem mCal_c (h : mEq σ σ') (hc : mCal n σ) : mCal n σ' := fun p hp => by
  rw [← h 4 (by decide) (by decide)]
  exact hc p hp
end MC
/-- the first i cells by f, the others as they were -/
def mUp (i : Nat) (f f0 : Nat → Int32) : Nat → Int32 := fun j => if j < i then f j else f0 j
theorem mUp_0 {f f0 : Nat → Int32} : mUp 0 f f0 = f0 := funext fun j => if_neg (Nat.not_lt_zero j)
theorem mUp_s {f f0 : Nat → Int32} (i : Nat) : upd (mUp i f f0) i (f i) = mUp (i + 1) f f0 := by
  funext j
  by_cases h : j = i
  · subst h
    simp [upd, mUp]
  · simp only [upd, mUp, h, if_false]
    by_cases h2 : j < i
    · rw [if_pos h2, if_pos (by omega)]
    · rw [if_neg h2, if_neg (by omega)]
theorem mUp_lt {f f0 : Nat → Int32} {i j : Nat} (h : j < i) : mUp i f f0 j = f j := if_pos h
theorem mUp_ge {f f0 : Nat → Int32} {i j : Nat} (h : i ≤ j) : mUp i f f0 j = f0 j := if_neg (by omega)
theorem zk_id {σ : Nat → Nat → Int32} {k : Nat} : zk σ k (σ k) = σ := by
  funext q
  by_cases hq : q = k
  · rw [hq, zk_s]
  · rw [zk_n hq]
theorem upd_c {f f' : Nat → Int32} {k : Nat} {x x' : Int32} (h : f = f') (hx : x = x') : upd f k x = upd f' k x' := by rw [h, hx]
/-- how a public method of the reference ends: its answer, what it has thrown, the people, the cells -/
def zm (h0 : zz_H) (m : Nat) (ad : Nat → Nat) (r th : Int32) (n : Nat) (σ : Nat → Nat → Int32) : Option Value → zz_H → Prop := fun v h' => v = some (.int r) ∧ ∃ σ', MR h0 h' m ad n σ' ∧ mEq σ' σ ∧ σ' 14 0 = th
theorem zm_14 {h0 h : zz_H} {m : Nat} {ad : Nat → Nat} {n : Nat} {σ : Nat → Nat → Int32} (hM : MR h0 h m ad n σ) (v : Int32) : ∃ σ1, MR h0 (zz_up h m (eO 1 ((mFs n ad σ).set 14 (.int v)))) m ad n σ1 ∧ mEq σ1 σ ∧ σ1 14 0 = v := ⟨_, hM.us 14 (Or.inr (Or.inr rfl)) v, mEq.rf.scr (Nat.le_refl _) _, rfl⟩
/-- the rounds of weights -/
def mDf (f f' : Nat → Int32) : Nat → Bool
  | 0 => false
  | k + 1 => mDf f f' k || decide (f k ≠ f' k)
def mNew (n : Nat) (σ : Nat → Nat → Int32) : Nat → Int32 := fun p => mFresh n σ p (mMark n σ)
/-- the cells behind a round -/
def mRd (n : Nat) (σ : Nat → Nat → Int32) : Nat → Nat → Int32 := zk σ 3 (mUp n (mNew n σ) (σ 3))
def mCg (n : Nat) (σ : Nat → Nat → Int32) : Bool := mDf (σ 3) (mNew n σ) n
/-- at most k rounds: how many changed something; the cells behind them -/
def mSet (n : Nat) : Nat → (Nat → Nat → Int32) → Nat × (Nat → Nat → Int32)
  | 0, σ => (0, σ)
  | k + 1, σ => if mCg n σ = true then ((mSet n k (mRd n σ)).1 + 1, (mSet n k (mRd n σ)).2) else (0, mRd n σ)
theorem mDf_c {f f' g g' : Nat → Int32} {k : Nat} (h : ∀ j, j < k → f j = g j) (h' : ∀ j, j < k → f' j = g' j) : mDf f f' k = mDf g g' k := by
  induction k with
  | zero => rfl
  | succ k ih => simp only [mDf, ih (fun j hj => h j (by omega)) (fun j hj => h' j (by omega)), h k (by omega), h' k (by omega)]
theorem mNew_c {σ σ' : Nat → Nat → Int32} {n : Nat} (h : mEq σ σ') : mNew n σ = mNew n σ' := by
  funext p
  exact mFresh_c h (fun j _ => mMark_c h)
theorem mRd_c {σ σ' : Nat → Nat → Int32} {n : Nat} (h : mEq σ σ') : mEq (mRd n σ) (mRd n σ') := by
  unfold mRd
  rw [mNew_c h, h 3 (by decide) (by decide)]
  exact h.zku 3 _
theorem mCg_c {σ σ' : Nat → Nat → Int32} {n : Nat} (h : mEq σ σ') : mCg n σ = mCg n σ' := by
  unfold mCg
  rw [mNew_c h, h 3 (by decide) (by decide)]
theorem mSet_c {n : Nat} (k : Nat) {σ σ' : Nat → Nat → Int32} (h : mEq σ σ') : (mSet n k σ).1 = (mSet n k σ').1 ∧ mEq (mSet n k σ).2 (mSet n k σ').2 := by
  induction k generalizing σ σ' with
  | zero => exact ⟨rfl, h⟩
  | succ k ih =>
    obtain ⟨h1, h2⟩ := ih (mRd_c (n := n) h)
    unfold mSet
    rw [mCg_c h]
    split
    · exact ⟨by rw [h1], h2⟩
    · exact ⟨rfl, mRd_c h⟩
theorem mCal_rd {σ : Nat → Nat → Int32} {n : Nat} (h : mCal n σ) : mCal n (mRd n σ) := h
section ZM
variable {p : Program} {l : Launch} {e : Env} {R : Room} {s : State} {m : MethodId} {args : Array Value} {below : List Frame} {meth : Method} {c : Code} {g : zz_G} {y : MethodName} {cc : ByteArray} {nL : Nat} {ret : Option FieldType} {Q : State → Prop} {h h0 : zz_H} {mc ms pc : Nat} {lo : List (Nat × Value)} {rest : List Value} {mo n : Nat} {ad : Nat → Nat} {σ : Nat → Nat → Int32}
def mI (k : Nat) : Bool := match k with
  | 1 | 3 | 4 | 5 | 10 | 11 | 16 | 18 | 19 => true
  | _ => false
def mZ (k : Nat) : Bool := match k with
  | 2 | 6 | 7 | 8 | 9 | 15 | 17 => true
  | _ => false
theorem mE_I {k : Nat} {f : Nat → Int32} (h : mI k = true) : mE k f = eI (mN k) f ∧ mA k = true := by
  unfold mI at h
  split at h
  all_goals first | exact ⟨rfl, rfl⟩ | cases h
theorem mE_Z {k : Nat} {f : Nat → Int32} (h : mZ k = true) : mE k f = eZ (mN k) f ∧ mA k = true := by
  unfold mZ at h
  split at h
  all_goals first | exact ⟨rfl, rfl⟩ | cases h
theorem mN_lt (k : Nat) : mN k < 2 ^ 31 := by
  unfold mN
  split <;> decide
/-- the reference stores into one of its arrays of ints -/
theorem zm_ia (X : zz_X l g y cc nL ret p s m args meth c) (hM : MR h0 h mo ad n σ) (k : Nat) (hk : mI k = true) {i x : Int32} {j : Nat} (hi : i = nI j) (hj : j < mN k) (hdg : decode cc pc = .ok (.iastore, 1)) (kk : ∀ h' : zz_H, MR h0 h' mo ad n (zk σ k (upd (σ k) j x)) → zz_J p l e R s m args below meth c g nL Q h' mc ms (pc + 1) lo rest) : zz_J p l e R s m args below meth c g nL Q h mc ms pc lo (.int x :: .int i :: .ref (ad k) :: rest) := by
  have h1 := hM.arr k (mE_I (f := fun _ => 0) hk).2
  have h2 := hM.ua k (mE_I (f := fun _ => 0) hk).2 (upd (σ k) j x)
  rw [(mE_I hk).1] at h1 h2
  exact zj_iast X h1 hi hj (mN_lt k) hdg (kk _ h2)
/-- and of booleans -/
theorem zm_za (X : zz_X l g y cc nL ret p s m args meth c) (hM : MR h0 h mo ad n σ) (k : Nat) (hk : mZ k = true) {i x x' : Int32} {j : Nat} (hi : i = nI j) (hj : j < mN k) (hx : vp_nar .boolean x = x') (hdg : decode cc pc = .ok (.bastore, 1)) (kk : ∀ h' : zz_H, MR h0 h' mo ad n (zk σ k (upd (σ k) j x')) → zz_J p l e R s m args below meth c g nL Q h' mc ms (pc + 1) lo rest) : zz_J p l e R s m args below meth c g nL Q h mc ms pc lo (.int x :: .int i :: .ref (ad k) :: rest) := by
  have h1 := hM.arr k (mE_Z (f := fun _ => 0) hk).2
  have h2 := hM.ua k (mE_Z (f := fun _ => 0) hk).2 (upd (σ k) j x')
  rw [(mE_Z hk).1] at h1 h2
  subst hx
  exact zj_zast X h1 hi hj (mN_lt k) hdg (kk _ h2)
/-- and into one of the fields 12, 13, 14 -/
theorem zm_pu (X : zz_X l g y cc nL ret p s m args meth c) (hM : MR h0 h mo ad n σ) (k : Nat) (hk : k = 12 ∨ k = 13 ∨ k = 14) {index : Nat} {ref : String} {x : Int32} (hlink : Cond.fieldLink y.cls index ref (TX2 k).2.1 (TX2 k).2.2.1 ∈ lw_all) (hsame : ∀ x, s.fieldFound? (TX2 k).1 (TX2 k).2.1 (TX2 k).2.2.1 = some x → s.fieldFound? ref (TX2 k).2.1 (TX2 k).2.2.1 = some x) (hdg : decode cc pc = .ok (.putfield index, 3)) (kk : ∀ h' : zz_H, MR h0 h' mo ad n (zk σ k (fun _ => x)) → zz_J p l e R s m args below meth c g nL Q h' mc ms (pc + 3) lo rest) : zz_J p l e R s m args below meth c g nL Q h mc ms pc lo (.int x :: .ref mo :: rest) := by
  have h2 := hM.us k hk x
  rcases hk with rfl | rfl | rfl
  · exact zj_put X in_X2 tyX2 tyX2_ok nmX2 rfl 12 (by decide) hlink hsame rfl hM.o rfl rfl (Nat.le_of_ble_eq_true rfl) (Or.inl (by decide)) hdg (kk _ h2)
  · exact zj_put X in_X2 tyX2 tyX2_ok nmX2 rfl 13 (by decide) hlink hsame rfl hM.o rfl rfl (Nat.le_of_ble_eq_true rfl) (Or.inl (by decide)) hdg (kk _ h2)
  · exact zj_put X in_X2 tyX2 tyX2_ok nmX2 rfl 14 (by decide) hlink hsame rfl hM.o rfl rfl (Nat.le_of_ble_eq_true rfl) (Or.inl (by decide)) hdg (kk _ h2)
/-- thrown is set: scratch anew -/
theorem zm_th (X : zz_X l g y cc nL ret p s m args meth c) (hM : MR h0 h mo ad n σ) {index : Nat} {ref : String} {x : Int32} (hlink : Cond.fieldLink y.cls index ref (TX2 14).2.1 (TX2 14).2.2.1 ∈ lw_all) (hsame : ∀ x, s.fieldFound? (TX2 14).1 (TX2 14).2.1 (TX2 14).2.2.1 = some x → s.fieldFound? ref (TX2 14).2.1 (TX2 14).2.2.1 = some x) (hdg : decode cc pc = .ok (.putfield index, 3)) (kk : ∀ (h' : zz_H) (σ1 : Nat → Nat → Int32), MR h0 h' mo ad n σ1 → mEq σ1 σ → σ1 14 0 = x → zz_J p l e R s m args below meth c g nL Q h' mc ms (pc + 3) lo rest) : zz_J p l e R s m args below meth c g nL Q h mc ms pc lo (.int x :: .ref mo :: rest) :=
  zm_pu X hM 14 (Or.inr (Or.inr rfl)) hlink hsame hdg (fun h' hM' => kk h' _ hM' (mEq.rf.scr (Nat.le_refl _) _) rfl)
end ZM
