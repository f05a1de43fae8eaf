set_option maxRecDepth 100000
/-! THE REFERENCE, method by method: leaves, sums, medians -/
set_option maxHeartbeats 4000000 in
theorem cm_isBetween (l : Launch) (g : zz_G) (h : zz_H) (x a b : Int32) : zz_C l g yX2_isBetween cX2_isBetween 3 (some .boolean) (zz_rm 1 20 0 0) [.int x, .int a, .int b] h (fun r h' => r = some (.int (zb (decide (a ≤ x ∧ x ≤ b)))) ∧ h' = h) := by
  refine zz_C.of (by decide) (Nat.le_of_ble_eq_true rfl) (fun pP eE sS mM aA bB tT cC X Q hQ => ?_)
  refine zj_iload_n X dX2_isBetween_0 rfl ?_
  refine zj_iload_n X dX2_isBetween_1 rfl ?_
  refine zj_icmp_lt (tgt := 14) X dX2_isBetween_2 (by decide) (fun c_2 => ?_) (fun c_2 => ?_)
  · refine zj_iconst (v := 0) X dX2_isBetween_14 rfl ?_
    exact zj_zret X hQ (⟨by first | (have := Int32.not_lt.mp c_2; have := Int32.not_lt.mp c_7; simp [zb, *]; done) | (have := Int32.not_le.mpr c_2; simp [zb, *]; done) | (have := Int32.not_le.mpr c_7; simp [zb, *]), rfl⟩) rfl (by decide) (Nat.le_of_ble_eq_true rfl) (Nat.le_of_ble_eq_true rfl) dX2_isBetween_15
  · refine zj_iload_n X dX2_isBetween_5 rfl ?_
    refine zj_iload_n X dX2_isBetween_6 rfl ?_
    refine zj_icmp_gt (tgt := 14) X dX2_isBetween_7 (by decide) (fun c_7 => ?_) (fun c_7 => ?_)
    · refine zj_iconst (v := 0) X dX2_isBetween_14 rfl ?_
      exact zj_zret X hQ (⟨by first | (have := Int32.not_lt.mp c_2; have := Int32.not_lt.mp c_7; simp [zb, *]; done) | (have := Int32.not_le.mpr c_2; simp [zb, *]; done) | (have := Int32.not_le.mpr c_7; simp [zb, *]), rfl⟩) rfl (by decide) (Nat.le_of_ble_eq_true rfl) (Nat.le_of_ble_eq_true rfl) dX2_isBetween_15
    · refine zj_iconst (v := 1) X dX2_isBetween_10 rfl ?_
      refine zj_goto (tgt := 15) X dX2_isBetween_11 (by decide) ?_
      exact zj_zret X hQ (⟨by first | (have := Int32.not_lt.mp c_2; have := Int32.not_lt.mp c_7; simp [zb, *]; done) | (have := Int32.not_le.mpr c_2; simp [zb, *]; done) | (have := Int32.not_le.mpr c_7; simp [zb, *]), rfl⟩) rfl (by decide) (Nat.le_of_ble_eq_true rfl) (Nat.le_of_ble_eq_true rfl) dX2_isBetween_15

set_option maxHeartbeats 4000000 in
theorem cm_isMark (l : Launch) (g : zz_G) (h : zz_H) (x : Int32) : zz_C l g yX2_isMark cX2_isMark 1 (some .boolean) (zz_rm 2 42 0 0) [.int x] h (fun r h' => r = some (.int (zb (decide (0 ≤ x ∧ x ≤ 100)))) ∧ h' = h) := by
  refine zz_C.of (by decide) (Nat.le_of_ble_eq_true rfl) (fun pP eE sS mM aA bB tT cC X Q hQ => ?_)
  refine zj_iload_n X dX2_isMark_0 rfl ?_
  refine zj_iconst (v := 0) X dX2_isMark_1 rfl ?_
  refine zj_bipush (v := 100) X dX2_isMark_2 (by decide) ?_
  refine zj_callSp (n := 3) (As := [_, _, _]) X (cm_isBetween l g h _ _ _) ⟨by decide, by decide, by decide +kernel⟩ (lw_S q1211 q1212 q50 q1213) ⟨Nat.le_of_ble_eq_true rfl, Nat.le_of_ble_eq_true rfl⟩ rfl rfl (Nat.le_of_ble_eq_true rfl) ⟨Nat.le_of_ble_eq_true rfl, Nat.le_of_ble_eq_true rfl⟩ dX2_isMark_4 ?_
  exact zj_zret X hQ (⟨rfl, rfl⟩) rfl (zb_nar _) (Nat.le_of_ble_eq_true rfl) (Nat.le_of_ble_eq_true rfl) dX2_isMark_7

set_option maxHeartbeats 4000000 in
theorem cm_isDay (l : Launch) (g : zz_G) (h : zz_H) (x : Int32) : zz_C l g yX2_isDay cX2_isDay 1 (some .boolean) (zz_rm 2 42 0 0) [.int x] h (fun r h' => r = some (.int (zb (decide (0 ≤ x ∧ x ≤ 99)))) ∧ h' = h) := by
  refine zz_C.of (by decide) (Nat.le_of_ble_eq_true rfl) (fun pP eE sS mM aA bB tT cC X Q hQ => ?_)
  refine zj_iload_n X dX2_isDay_0 rfl ?_
  refine zj_iconst (v := 0) X dX2_isDay_1 rfl ?_
  refine zj_bipush (v := 99) X dX2_isDay_2 (by decide) ?_
  refine zj_callSp (n := 3) (As := [_, _, _]) X (cm_isBetween l g h _ _ _) ⟨by decide, by decide, by decide +kernel⟩ (lw_S q1211 q1212 q50 q1213) ⟨Nat.le_of_ble_eq_true rfl, Nat.le_of_ble_eq_true rfl⟩ rfl rfl (Nat.le_of_ble_eq_true rfl) ⟨Nat.le_of_ble_eq_true rfl, Nat.le_of_ble_eq_true rfl⟩ dX2_isDay_4 ?_
  exact zj_zret X hQ (⟨rfl, rfl⟩) rfl (zb_nar _) (Nat.le_of_ble_eq_true rfl) (Nat.le_of_ble_eq_true rfl) dX2_isDay_7

set_option maxHeartbeats 4000000 in
theorem cm_at (l : Launch) (g : zz_G) (h : zz_H) (p w : Nat) : zz_C l g yX2_at cX2_at 2 (some .int) (zz_rm 1 20 0 0) [.int (nI p), .int (nI w)] h (fun r h' => r = some (.int (nI (16 * w + p))) ∧ h' = h) := by
  refine zz_C.of (by decide) (Nat.le_of_ble_eq_true rfl) (fun pP eE sS mM aA bB tT cC X Q hQ => ?_)
  refine zj_bipush (v := 16) X dX2_at_0 (by decide) ?_
  refine zj_iload_n X dX2_at_2 rfl ?_
  refine zj_imul X dX2_at_3 ?_
  refine zj_iload_n X dX2_at_4 rfl ?_
  refine zj_iadd X dX2_at_5 ?_
  exact zj_iret X hQ (⟨by rw [zi_at], rfl⟩) rfl (Nat.le_of_ble_eq_true rfl) (Nat.le_of_ble_eq_true rfl) dX2_at_6

set_option maxHeartbeats 4000000 in
theorem cm_isPerson (l : Launch) (g : zz_G) {h0 h : zz_H} {m : Nat} {ad : Nat → Nat} {n : Nat} {σ : Nat → Nat → Int32} (hM : MR h0 h m ad n σ) (x : Int32) : zz_C l g yX2_isPerson cX2_isPerson 2 (some .boolean) (zz_rm 2 42 0 0) [.ref m, .int x] h (fun r h' => r = some (.int (zb (isPB n x))) ∧ h' = h) := by
  refine zz_C.of (by decide) (Nat.le_of_ble_eq_true rfl) (fun pP eE sS mM aA bB tT cC X Q hQ => ?_)
  refine zj_iload_n X dX2_isPerson_0 rfl ?_
  refine zj_iconst (v := 0) X dX2_isPerson_1 rfl ?_
  refine zj_aload_n X dX2_isPerson_2 rfl ?_
  refine zj_get X in_X2 rfl 0 (by decide) q1141 (fun _ h => h) hM.o rfl (Or.inl (by decide)) dX2_isPerson_3 ?_
  refine zj_iconst (v := 1) X dX2_isPerson_6 rfl ?_
  refine zj_isub X dX2_isPerson_7 ?_
  refine zj_callSp (n := 3) (As := [_, _, _]) X (cm_isBetween l g h _ _ _) ⟨by decide, by decide, by decide +kernel⟩ (lw_S q1211 q1212 q50 q1213) ⟨Nat.le_of_ble_eq_true rfl, Nat.le_of_ble_eq_true rfl⟩ rfl rfl (Nat.le_of_ble_eq_true rfl) ⟨Nat.le_of_ble_eq_true rfl, Nat.le_of_ble_eq_true rfl⟩ dX2_isPerson_8 ?_
  exact zj_zret X hQ (⟨rfl, rfl⟩) rfl (zb_nar _) (Nat.le_of_ble_eq_true rfl) (Nat.le_of_ble_eq_true rfl) dX2_isPerson_11

def isWB (n : Nat) (σ : Nat → Nat → Int32) (x : Int32) : Bool := isPB n x && decide (σ 2 x.toNatClampNeg ≠ 0)
theorem isWB_t {n : Nat} {σ : Nat → Nat → Int32} {x : Int32} (hn : n ≤ 65536) (h : isWB n σ x = true) : ∃ j, j < n ∧ x = nI j ∧ ¬ σ 2 j = 0 := by
  obtain ⟨h1, h2⟩ := Bool.and_eq_true_iff.mp h
  obtain ⟨j, hj, rfl⟩ := isPB_t hn h1
  refine ⟨j, hj, rfl, ?_⟩
  have h3 := of_decide_eq_true h2
  rwa [nI_clamp (by omega)] at h3
theorem isWB_j {n j : Nat} {σ : Nat → Nat → Int32} (hn : n ≤ 65536) (hj : j < n) : isWB n σ (nI j) = decide (σ 2 j ≠ 0) := by
  unfold isWB
  rw [isPB_j hn hj, nI_clamp (by omega)]
  rfl

set_option maxHeartbeats 4000000 in
theorem cm_isWork (l : Launch) (g : zz_G) {h0 h : zz_H} {m : Nat} {ad : Nat → Nat} {n : Nat} {σ : Nat → Nat → Int32} (hM : MR h0 h m ad n σ) (x : Int32) : zz_C l g yX2_isWork cX2_isWork 2 (some .boolean) (zz_rm 3 63 0 0) [.ref m, .int x] h (fun r h' => r = some (.int (zb (isWB n σ x))) ∧ h' = h) := by
  refine zz_C.of (by decide) (Nat.le_of_ble_eq_true rfl) (fun pP eE sS mM aA bB tT cC X Q hQ => ?_)
  have hn := hM.le
  refine zj_aload_n X dX2_isWork_0 rfl ?_
  refine zj_iload_n X dX2_isWork_1 rfl ?_
  refine zj_callVp (n := 1) (As := [_]) X (cm_isPerson l g hM _) hM.o rfl rfl ⟨by decide, by decide, by decide +kernel⟩ (lw_V q1218 q1220 qs22 q50 q1221) ⟨Nat.le_of_ble_eq_true rfl, Nat.le_of_ble_eq_true rfl⟩ rfl rfl (Nat.le_of_ble_eq_true rfl) ⟨Nat.le_of_ble_eq_true rfl, Nat.le_of_ble_eq_true rfl⟩ dX2_isWork_2 ?_
  refine zj_if_eq (tgt := 21) X dX2_isWork_5 (by decide) (fun c_5 => ?_) (fun c_5 => ?_)
  · have e_5 := zb_0.mp c_5
    refine zj_iconst (v := 0) X dX2_isWork_21 rfl ?_
    exact zj_zret X hQ (⟨by first | (simp [isWB, e_5, zb]; done) | (rw [isWB_j (by omega) hj]; simp [zb, c_14]), rfl⟩) rfl (by decide) (Nat.le_of_ble_eq_true rfl) (Nat.le_of_ble_eq_true rfl) dX2_isWork_22
  · have e_5 := zb_n.mp c_5
    obtain ⟨j, hj, rfl⟩ := isPB_t (by omega) e_5
    refine zj_aload_n X dX2_isWork_8 rfl ?_
    refine zj_get X in_X2 rfl 2 (by decide) q1143 (fun _ h => h) hM.o rfl (Or.inl (by decide)) dX2_isWork_9 ?_
    refine zj_iload_n X dX2_isWork_12 rfl ?_
    refine zj_zald X (hM.arr 2 rfl) (rfl) (by show _ < 16; omega) (by omega) dX2_isWork_13 ?_
    refine zj_if_eq (tgt := 21) X dX2_isWork_14 (by decide) (fun c_14 => ?_) (fun c_14 => ?_)
    · refine zj_iconst (v := 0) X dX2_isWork_21 rfl ?_
      exact zj_zret X hQ (⟨by first | (simp [isWB, e_5, zb]; done) | (rw [isWB_j (by omega) hj]; simp [zb, c_14]), rfl⟩) rfl (by decide) (Nat.le_of_ble_eq_true rfl) (Nat.le_of_ble_eq_true rfl) dX2_isWork_22
    · refine zj_iconst (v := 1) X dX2_isWork_17 rfl ?_
      refine zj_goto (tgt := 22) X dX2_isWork_18 (by decide) ?_
      exact zj_zret X hQ (⟨by first | (simp [isWB, e_5, zb]; done) | (rw [isWB_j (by omega) hj]; simp [zb, c_14]), rfl⟩) rfl (by decide) (Nat.le_of_ble_eq_true rfl) (Nat.le_of_ble_eq_true rfl) dX2_isWork_22

def mAt (p w : Nat) : Nat := 16 * w + p
/-- may p read w: other persons, other groups -/
def mFor (σ : Nat → Nat → Int32) (p w : Nat) : Bool := decide (p ≠ w) && decide (σ 1 p ≠ σ 1 w)
def mMay (σ : Nat → Nat → Int32) (p w : Nat) : Bool := mFor σ p w && (decide (σ 7 (16 * w + p) = 0) && decide (σ 8 (16 * w + p) = 0))
/-- 1 where the cell k of a row isn't 0 -/
def mOn (f : Nat → Int32) (k : Nat) : Int32 := if f k = 0 then 0 else 1
def mLoad (n : Nat) (σ : Nat → Nat → Int32) (p : Nat) : Int32 := zsum (fun w => mOn (σ 7) (16 * w + p)) n
def mReaders (n : Nat) (σ : Nat → Nat → Int32) (w : Nat) : Int32 := zsum (fun p => mOn (σ 7) (16 * w + p)) n
def mWorks (n : Nat) (σ : Nat → Nat → Int32) : Int32 := zsum (mOn (σ 2)) n
def mRev (σ : Nat → Nat → Int32) (p w : Nat) : Int32 := if σ 10 (16 * w + p) = -1 then 0 else 1
def mReviews (n : Nat) (σ : Nat → Nat → Int32) (w : Nat) : Int32 := zsum (fun p => mRev σ p w) n
/-- how much a review counts -/
def mCounts (σ : Nat → Nat → Int32) (p w : Nat) : Int32 := if σ 10 (16 * w + p) = -1 then 0 else (if σ 9 (16 * w + p) = 0 then (if σ 12 0 < σ 11 (16 * w + p) then σ 3 p else 2 * σ 3 p) else 2 * (if σ 12 0 < σ 11 (16 * w + p) then σ 3 p else 2 * σ 3 p))
def mNear (σ : Nat → Nat → Int32) (p w : Nat) (mid most : Int32) : Bool := decide (σ 10 (16 * w + p) ≠ -1) && decide (zabs (σ 10 (16 * w + p) - mid) ≤ most)
def mAll (n : Nat) (σ : Nat → Nat → Int32) (w : Nat) (mid most : Int32) : Int32 := zsum (fun p => if mNear σ p w mid most = true then mCounts σ p w else 0) n
def mBelow (n : Nat) (σ : Nat → Nat → Int32) (w : Nat) (mark mid most : Int32) : Int32 := zsum (fun p => if mNear σ p w mid most = true ∧ σ 10 (16 * w + p) ≤ mark then mCounts σ p w else 0) n
/-- the least mark of the first k persons that has half of all below it -/
def mMedK (n : Nat) (σ : Nat → Nat → Int32) (w : Nat) (mid most : Int32) : Nat → Int32
  | 0 => -1
  | k + 1 => if mNear σ k w mid most = true ∧ (mMedK n σ w mid most k = -1 ∨ σ 10 (16 * w + k) < mMedK n σ w mid most k) ∧ mAll n σ w mid most ≤ 2 * mBelow n σ w (σ 10 (16 * w + k)) mid most then σ 10 (16 * w + k) else mMedK n σ w mid most k
def mMed (n : Nat) (σ : Nat → Nat → Int32) (w : Nat) (mid most : Int32) : Int32 := mMedK n σ w mid most n
def mAllow (n : Nat) (σ : Nat → Nat → Int32) (w : Nat) : Int32 := if mReviews n σ w < 3 then 100 else σ 13 0
def mMark (n : Nat) (σ : Nat → Nat → Int32) (w : Nat) : Int32 := mMed n σ w (mMed n σ w 0 100) (mAllow n σ w)
def mWeightBy (sum many : Int32) : Int32 := zmax 1 (10 - sum / (4 * many))
def mPlain (σ : Nat → Nat → Int32) (p : Nat) : Int32 := if σ 4 p = 0 then 5 else mWeightBy (σ 5 p) (σ 4 p)

set_option maxHeartbeats 4000000 in
theorem cm_isForeign (l : Launch) (g : zz_G) {h0 h : zz_H} {m : Nat} {ad : Nat → Nat} {n : Nat} {σ : Nat → Nat → Int32} (hM : MR h0 h m ad n σ) (p w : Nat) (hp : p < n) (hw : w < n) : zz_C l g yX2_isForeign cX2_isForeign 3 (some .boolean) (zz_rm 1 20 0 0) [.ref m, .int (nI p), .int (nI w)] h (fun r h' => r = some (.int (zb (mFor σ p w))) ∧ h' = h) := by
  refine zz_C.of (by decide) (Nat.le_of_ble_eq_true rfl) (fun pP eE sS mM aA bB tT cC X Q hQ => ?_)
  have hn := hM.le
  refine zj_iload_n X dX2_isForeign_0 rfl ?_
  refine zj_iload_n X dX2_isForeign_1 rfl ?_
  refine zj_icmp_eq (tgt := 24) X dX2_isForeign_2 (by decide) (fun c_2 => ?_) (fun c_2 => ?_)
  · have e_2 := (nI_eq (by omega) (by omega)).mp c_2
    refine zj_iconst (v := 0) X dX2_isForeign_24 rfl ?_
    exact zj_zret X hQ (⟨by first | (simp [mFor, e_2, zb]; done) | (simp [mFor, e_2, zb, c_17]), rfl⟩) rfl (by decide) (Nat.le_of_ble_eq_true rfl) (Nat.le_of_ble_eq_true rfl) dX2_isForeign_25
  · have e_2 : p ≠ w := fun z => c_2 (by rw [z])
    refine zj_aload_n X dX2_isForeign_5 rfl ?_
    refine zj_get X in_X2 rfl 1 (by decide) q1142 (fun _ h => h) hM.o rfl (Or.inl (by decide)) dX2_isForeign_6 ?_
    refine zj_iload_n X dX2_isForeign_9 rfl ?_
    refine zj_iald X (hM.arr 1 rfl) (rfl) (by show _ < 16; omega) (by omega) dX2_isForeign_10 ?_
    refine zj_aload_n X dX2_isForeign_11 rfl ?_
    refine zj_get X in_X2 rfl 1 (by decide) q1142 (fun _ h => h) hM.o rfl (Or.inl (by decide)) dX2_isForeign_12 ?_
    refine zj_iload_n X dX2_isForeign_15 rfl ?_
    refine zj_iald X (hM.arr 1 rfl) (rfl) (by show _ < 16; omega) (by omega) dX2_isForeign_16 ?_
    refine zj_icmp_eq (tgt := 24) X dX2_isForeign_17 (by decide) (fun c_17 => ?_) (fun c_17 => ?_)
    · refine zj_iconst (v := 0) X dX2_isForeign_24 rfl ?_
      exact zj_zret X hQ (⟨by first | (simp [mFor, e_2, zb]; done) | (simp [mFor, e_2, zb, c_17]), rfl⟩) rfl (by decide) (Nat.le_of_ble_eq_true rfl) (Nat.le_of_ble_eq_true rfl) dX2_isForeign_25
    · refine zj_iconst (v := 1) X dX2_isForeign_20 rfl ?_
      refine zj_goto (tgt := 25) X dX2_isForeign_21 (by decide) ?_
      exact zj_zret X hQ (⟨by first | (simp [mFor, e_2, zb]; done) | (simp [mFor, e_2, zb, c_17]), rfl⟩) rfl (by decide) (Nat.le_of_ble_eq_true rfl) (Nat.le_of_ble_eq_true rfl) dX2_isForeign_25

set_option maxHeartbeats 4000000 in
theorem cm_may (l : Launch) (g : zz_G) {h0 h : zz_H} {m : Nat} {ad : Nat → Nat} {n : Nat} {σ : Nat → Nat → Int32} (hM : MR h0 h m ad n σ) (p w : Nat) (hp : p < n) (hw : w < n) : zz_C l g yX2_may cX2_may 3 (some .boolean) (zz_rm 2 42 0 0) [.ref m, .int (nI p), .int (nI w)] h (fun r h' => r = some (.int (zb (mMay σ p w))) ∧ h' = h) := by
  refine zz_C.of (by decide) (Nat.le_of_ble_eq_true rfl) (fun pP eE sS mM aA bB tT cC X Q hQ => ?_)
  have hn := hM.le
  refine zj_aload_n X dX2_may_0 rfl ?_
  refine zj_iload_n X dX2_may_1 rfl ?_
  refine zj_iload_n X dX2_may_2 rfl ?_
  refine zj_callVp (n := 2) (As := [_, _]) X (cm_isForeign l g hM p w hp hw) hM.o rfl rfl ⟨by decide, by decide, by decide +kernel⟩ (lw_V q1275 q1277 qs29 q50 q1278) ⟨Nat.le_of_ble_eq_true rfl, Nat.le_of_ble_eq_true rfl⟩ rfl rfl (Nat.le_of_ble_eq_true rfl) ⟨Nat.le_of_ble_eq_true rfl, Nat.le_of_ble_eq_true rfl⟩ dX2_may_3 ?_
  refine zj_if_eq (tgt := 39) X dX2_may_6 (by decide) (fun c_6 => ?_) (fun c_6 => ?_)
  · have e_6 := zb_0.mp c_6
    refine zj_iconst (v := 0) X dX2_may_39 rfl ?_
    exact zj_zret X hQ (⟨by first | (simp [mMay, e_6, zb]; done) | (simp [mMay, e_6, zb, c_19]; done) | (simp [mMay, e_6, zb, c_19, c_32]), rfl⟩) rfl (by decide) (Nat.le_of_ble_eq_true rfl) (Nat.le_of_ble_eq_true rfl) dX2_may_40
  · have e_6 := zb_n.mp c_6
    refine zj_aload_n X dX2_may_9 rfl ?_
    refine zj_get X in_X2 rfl 7 (by decide) q1148 (fun _ h => h) hM.o rfl (Or.inl (by decide)) dX2_may_10 ?_
    refine zj_iload_n X dX2_may_13 rfl ?_
    refine zj_iload_n X dX2_may_14 rfl ?_
    refine zj_callSp (n := 2) (As := [_, _]) X (cm_at l g _ _ _) ⟨by decide, by decide, by decide +kernel⟩ (lw_S q1264 q1265 q50 q1266) ⟨Nat.le_of_ble_eq_true rfl, Nat.le_of_ble_eq_true rfl⟩ rfl rfl (Nat.le_of_ble_eq_true rfl) ⟨Nat.le_of_ble_eq_true rfl, Nat.le_of_ble_eq_true rfl⟩ dX2_may_15 ?_
    refine zj_zald X (hM.arr 7 rfl) (rfl) (by show _ < 256; omega) (by omega) dX2_may_18 ?_
    refine zj_if_ne (tgt := 39) X dX2_may_19 (by decide) (fun c_19 => ?_) (fun c_19 => ?_)
    · refine zj_iconst (v := 0) X dX2_may_39 rfl ?_
      exact zj_zret X hQ (⟨by first | (simp [mMay, e_6, zb]; done) | (simp [mMay, e_6, zb, c_19]; done) | (simp [mMay, e_6, zb, c_19, c_32]), rfl⟩) rfl (by decide) (Nat.le_of_ble_eq_true rfl) (Nat.le_of_ble_eq_true rfl) dX2_may_40
    · refine zj_aload_n X dX2_may_22 rfl ?_
      refine zj_get X in_X2 rfl 8 (by decide) q1149 (fun _ h => h) hM.o rfl (Or.inl (by decide)) dX2_may_23 ?_
      refine zj_iload_n X dX2_may_26 rfl ?_
      refine zj_iload_n X dX2_may_27 rfl ?_
      refine zj_callSp (n := 2) (As := [_, _]) X (cm_at l g _ _ _) ⟨by decide, by decide, by decide +kernel⟩ (lw_S q1264 q1265 q50 q1266) ⟨Nat.le_of_ble_eq_true rfl, Nat.le_of_ble_eq_true rfl⟩ rfl rfl (Nat.le_of_ble_eq_true rfl) ⟨Nat.le_of_ble_eq_true rfl, Nat.le_of_ble_eq_true rfl⟩ dX2_may_28 ?_
      refine zj_zald X (hM.arr 8 rfl) (rfl) (by show _ < 256; omega) (by omega) dX2_may_31 ?_
      refine zj_if_ne (tgt := 39) X dX2_may_32 (by decide) (fun c_32 => ?_) (fun c_32 => ?_)
      · refine zj_iconst (v := 0) X dX2_may_39 rfl ?_
        exact zj_zret X hQ (⟨by first | (simp [mMay, e_6, zb]; done) | (simp [mMay, e_6, zb, c_19]; done) | (simp [mMay, e_6, zb, c_19, c_32]), rfl⟩) rfl (by decide) (Nat.le_of_ble_eq_true rfl) (Nat.le_of_ble_eq_true rfl) dX2_may_40
      · refine zj_iconst (v := 1) X dX2_may_35 rfl ?_
        refine zj_goto (tgt := 40) X dX2_may_36 (by decide) ?_
        exact zj_zret X hQ (⟨by first | (simp [mMay, e_6, zb]; done) | (simp [mMay, e_6, zb, c_19]; done) | (simp [mMay, e_6, zb, c_19, c_32]), rfl⟩) rfl (by decide) (Nat.le_of_ble_eq_true rfl) (Nat.le_of_ble_eq_true rfl) dX2_may_40

set_option maxHeartbeats 4000000 in
theorem cm_load (l : Launch) (g : zz_G) {h0 h : zz_H} {m : Nat} {ad : Nat → Nat} {n : Nat} {σ : Nat → Nat → Int32} (hM : MR h0 h m ad n σ) (p : Nat) (hp : p < n) : zz_C l g yX2_load cX2_load 4 (some .int) (zz_rm 2 41 0 0) [.ref m, .int (nI p)] h (fun r h' => r = some (.int (mLoad n σ p)) ∧ h' = h) := by
  refine zz_C.of (by decide) (Nat.le_of_ble_eq_true rfl) (fun pP eE sS mM aA bB tT cC X Q hQ => ?_)
  have hn := hM.le
  refine zj_iconst (v := 0) X dX2_load_0 rfl ?_
  refine zj_istore_n X dX2_load_1 (by decide) ?_
  refine zj_iconst (v := 0) X dX2_load_2 rfl ?_
  refine zj_istore_n X dX2_load_3 (by decide) ?_
  have L_4 : ∀ k_4 : Nat, ∀ (i : Nat), i ≤ n → n < i + k_4 → zz_J pP l eE (zz_rm 2 41 0 0) sS mM aA bB tT cC g 4 Q h 0 0 4 [(0, .ref m), (1, .int (nI p)), (2, .int (zsum (fun w => mOn (σ 7) (16 * w + p)) i)), (3, .int (nI i))] [] := by
    intro k_4
    induction k_4 with
    | zero =>
      intro i h1 h2
      omega
    | succ k_4 ih_4 =>
      intro i h1 h2
      refine zj_iload_n X dX2_load_4 rfl ?_
      refine zj_aload_n X dX2_load_5 rfl ?_
      refine zj_get X in_X2 rfl 0 (by decide) q1141 (fun _ h => h) hM.o rfl (Or.inl (by decide)) dX2_load_6 ?_
      refine zj_icmp_ge (tgt := 39) X dX2_load_9 (by decide) (fun c_9 => ?_) (fun c_9 => ?_)
      · have e_9 := zi_ge h1 (by omega) c_9
        refine zj_iload_n X dX2_load_39 rfl ?_
        exact zj_iret X hQ (⟨by rw [e_9]; rfl, rfl⟩) rfl (Nat.le_of_ble_eq_true rfl) (Nat.le_of_ble_eq_true rfl) dX2_load_40
      · have e_9 := zi_lt h1 (by omega) c_9
        refine zj_iload_n X dX2_load_12 rfl ?_
        refine zj_aload_n X dX2_load_13 rfl ?_
        refine zj_get X in_X2 rfl 7 (by decide) q1148 (fun _ h => h) hM.o rfl (Or.inl (by decide)) dX2_load_14 ?_
        refine zj_iload_n X dX2_load_17 rfl ?_
        refine zj_iload_n X dX2_load_18 rfl ?_
        refine zj_callSp (n := 2) (As := [_, _]) X (cm_at l g _ _ _) ⟨by decide, by decide, by decide +kernel⟩ (lw_S q1264 q1265 q50 q1266) ⟨Nat.le_of_ble_eq_true rfl, Nat.le_of_ble_eq_true rfl⟩ rfl rfl (Nat.le_of_ble_eq_true rfl) ⟨Nat.le_of_ble_eq_true rfl, Nat.le_of_ble_eq_true rfl⟩ dX2_load_19 ?_
        refine zj_zald X (hM.arr 7 rfl) (rfl) (by show _ < 256; omega) (by omega) dX2_load_22 ?_
        refine zj_if_eq (tgt := 30) X dX2_load_23 (by decide) (fun c_23 => ?_) (fun c_23 => ?_)
        · refine zj_iconst (v := 0) X dX2_load_30 rfl ?_
          refine zj_iadd X dX2_load_31 ?_
          refine zj_istore_n X dX2_load_32 (by decide) ?_
          refine zj_iinc X dX2_load_33 rfl (zi_1 i) (by decide) ?_
          refine zj_goto (tgt := 4) X dX2_load_36 (by decide) ?_
          exact zj_lo (ih_4 (i + 1) (by omega) (by omega)) ⟨rfl, rfl, zi_c (by simp [zsum, mOn, c_23]), rfl, trivial⟩
        · refine zj_iconst (v := 1) X dX2_load_26 rfl ?_
          refine zj_goto (tgt := 31) X dX2_load_27 (by decide) ?_
          refine zj_iadd X dX2_load_31 ?_
          refine zj_istore_n X dX2_load_32 (by decide) ?_
          refine zj_iinc X dX2_load_33 rfl (zi_1 i) (by decide) ?_
          refine zj_goto (tgt := 4) X dX2_load_36 (by decide) ?_
          exact zj_lo (ih_4 (i + 1) (by omega) (by omega)) ⟨rfl, rfl, zi_c (by simp [zsum, mOn, c_23]), rfl, trivial⟩
  exact zj_lo (L_4 (n + 1) 0 (Nat.zero_le _) (by omega)) ⟨rfl, rfl, rfl, rfl, trivial⟩

set_option maxHeartbeats 4000000 in
theorem cm_countReaders (l : Launch) (g : zz_G) {h0 h : zz_H} {m : Nat} {ad : Nat → Nat} {n : Nat} {σ : Nat → Nat → Int32} (hM : MR h0 h m ad n σ) (w : Nat) (hw : w < n) : zz_C l g yX2_countReaders cX2_countReaders 4 (some .int) (zz_rm 2 41 0 0) [.ref m, .int (nI w)] h (fun r h' => r = some (.int (mReaders n σ w)) ∧ h' = h) := by
  refine zz_C.of (by decide) (Nat.le_of_ble_eq_true rfl) (fun pP eE sS mM aA bB tT cC X Q hQ => ?_)
  have hn := hM.le
  refine zj_iconst (v := 0) X dX2_countReaders_0 rfl ?_
  refine zj_istore_n X dX2_countReaders_1 (by decide) ?_
  refine zj_iconst (v := 0) X dX2_countReaders_2 rfl ?_
  refine zj_istore_n X dX2_countReaders_3 (by decide) ?_
  have L_4 : ∀ k_4 : Nat, ∀ (i : Nat), i ≤ n → n < i + k_4 → zz_J pP l eE (zz_rm 2 41 0 0) sS mM aA bB tT cC g 4 Q h 0 0 4 [(0, .ref m), (1, .int (nI w)), (2, .int (zsum (fun p => mOn (σ 7) (16 * w + p)) i)), (3, .int (nI i))] [] := by
    intro k_4
    induction k_4 with
    | zero =>
      intro i h1 h2
      omega
    | succ k_4 ih_4 =>
      intro i h1 h2
      refine zj_iload_n X dX2_countReaders_4 rfl ?_
      refine zj_aload_n X dX2_countReaders_5 rfl ?_
      refine zj_get X in_X2 rfl 0 (by decide) q1141 (fun _ h => h) hM.o rfl (Or.inl (by decide)) dX2_countReaders_6 ?_
      refine zj_icmp_ge (tgt := 39) X dX2_countReaders_9 (by decide) (fun c_9 => ?_) (fun c_9 => ?_)
      · have e_9 := zi_ge h1 (by omega) c_9
        refine zj_iload_n X dX2_countReaders_39 rfl ?_
        exact zj_iret X hQ (⟨by rw [e_9]; rfl, rfl⟩) rfl (Nat.le_of_ble_eq_true rfl) (Nat.le_of_ble_eq_true rfl) dX2_countReaders_40
      · have e_9 := zi_lt h1 (by omega) c_9
        refine zj_iload_n X dX2_countReaders_12 rfl ?_
        refine zj_aload_n X dX2_countReaders_13 rfl ?_
        refine zj_get X in_X2 rfl 7 (by decide) q1148 (fun _ h => h) hM.o rfl (Or.inl (by decide)) dX2_countReaders_14 ?_
        refine zj_iload_n X dX2_countReaders_17 rfl ?_
        refine zj_iload_n X dX2_countReaders_18 rfl ?_
        refine zj_callSp (n := 2) (As := [_, _]) X (cm_at l g _ _ _) ⟨by decide, by decide, by decide +kernel⟩ (lw_S q1264 q1265 q50 q1266) ⟨Nat.le_of_ble_eq_true rfl, Nat.le_of_ble_eq_true rfl⟩ rfl rfl (Nat.le_of_ble_eq_true rfl) ⟨Nat.le_of_ble_eq_true rfl, Nat.le_of_ble_eq_true rfl⟩ dX2_countReaders_19 ?_
        refine zj_zald X (hM.arr 7 rfl) (rfl) (by show _ < 256; omega) (by omega) dX2_countReaders_22 ?_
        refine zj_if_eq (tgt := 30) X dX2_countReaders_23 (by decide) (fun c_23 => ?_) (fun c_23 => ?_)
        · refine zj_iconst (v := 0) X dX2_countReaders_30 rfl ?_
          refine zj_iadd X dX2_countReaders_31 ?_
          refine zj_istore_n X dX2_countReaders_32 (by decide) ?_
          refine zj_iinc X dX2_countReaders_33 rfl (zi_1 i) (by decide) ?_
          refine zj_goto (tgt := 4) X dX2_countReaders_36 (by decide) ?_
          exact zj_lo (ih_4 (i + 1) (by omega) (by omega)) ⟨rfl, rfl, zi_c (by simp [zsum, mOn, c_23]), rfl, trivial⟩
        · refine zj_iconst (v := 1) X dX2_countReaders_26 rfl ?_
          refine zj_goto (tgt := 31) X dX2_countReaders_27 (by decide) ?_
          refine zj_iadd X dX2_countReaders_31 ?_
          refine zj_istore_n X dX2_countReaders_32 (by decide) ?_
          refine zj_iinc X dX2_countReaders_33 rfl (zi_1 i) (by decide) ?_
          refine zj_goto (tgt := 4) X dX2_countReaders_36 (by decide) ?_
          exact zj_lo (ih_4 (i + 1) (by omega) (by omega)) ⟨rfl, rfl, zi_c (by simp [zsum, mOn, c_23]), rfl, trivial⟩
  exact zj_lo (L_4 (n + 1) 0 (Nat.zero_le _) (by omega)) ⟨rfl, rfl, rfl, rfl, trivial⟩

set_option maxHeartbeats 4000000 in
theorem cm_countWorks (l : Launch) (g : zz_G) {h0 h : zz_H} {m : Nat} {ad : Nat → Nat} {n : Nat} {σ : Nat → Nat → Int32} (hM : MR h0 h m ad n σ) : zz_C l g yX2_countWorks cX2_countWorks 3 (some .int) (zz_rm 1 20 0 0) [.ref m] h (fun r h' => r = some (.int (mWorks n σ)) ∧ h' = h) := by
  refine zz_C.of (by decide) (Nat.le_of_ble_eq_true rfl) (fun pP eE sS mM aA bB tT cC X Q hQ => ?_)
  have hn := hM.le
  refine zj_iconst (v := 0) X dX2_countWorks_0 rfl ?_
  refine zj_istore_n X dX2_countWorks_1 (by decide) ?_
  refine zj_iconst (v := 0) X dX2_countWorks_2 rfl ?_
  refine zj_istore_n X dX2_countWorks_3 (by decide) ?_
  have L_4 : ∀ k_4 : Nat, ∀ (i : Nat), i ≤ n → n < i + k_4 → zz_J pP l eE (zz_rm 1 20 0 0) sS mM aA bB tT cC g 3 Q h 0 0 4 [(0, .ref m), (1, .int (zsum (mOn (σ 2)) i)), (2, .int (nI i))] [] := by
    intro k_4
    induction k_4 with
    | zero =>
      intro i h1 h2
      omega
    | succ k_4 ih_4 =>
      intro i h1 h2
      refine zj_iload_n X dX2_countWorks_4 rfl ?_
      refine zj_aload_n X dX2_countWorks_5 rfl ?_
      refine zj_get X in_X2 rfl 0 (by decide) q1141 (fun _ h => h) hM.o rfl (Or.inl (by decide)) dX2_countWorks_6 ?_
      refine zj_icmp_ge (tgt := 35) X dX2_countWorks_9 (by decide) (fun c_9 => ?_) (fun c_9 => ?_)
      · have e_9 := zi_ge h1 (by omega) c_9
        refine zj_iload_n X dX2_countWorks_35 rfl ?_
        exact zj_iret X hQ (⟨by rw [e_9]; rfl, rfl⟩) rfl (Nat.le_of_ble_eq_true rfl) (Nat.le_of_ble_eq_true rfl) dX2_countWorks_36
      · have e_9 := zi_lt h1 (by omega) c_9
        refine zj_iload_n X dX2_countWorks_12 rfl ?_
        refine zj_aload_n X dX2_countWorks_13 rfl ?_
        refine zj_get X in_X2 rfl 2 (by decide) q1143 (fun _ h => h) hM.o rfl (Or.inl (by decide)) dX2_countWorks_14 ?_
        refine zj_iload_n X dX2_countWorks_17 rfl ?_
        refine zj_zald X (hM.arr 2 rfl) (rfl) (by show _ < 16; omega) (by omega) dX2_countWorks_18 ?_
        refine zj_if_eq (tgt := 26) X dX2_countWorks_19 (by decide) (fun c_19 => ?_) (fun c_19 => ?_)
        · refine zj_iconst (v := 0) X dX2_countWorks_26 rfl ?_
          refine zj_iadd X dX2_countWorks_27 ?_
          refine zj_istore_n X dX2_countWorks_28 (by decide) ?_
          refine zj_iinc X dX2_countWorks_29 rfl (zi_1 i) (by decide) ?_
          refine zj_goto (tgt := 4) X dX2_countWorks_32 (by decide) ?_
          exact zj_lo (ih_4 (i + 1) (by omega) (by omega)) ⟨rfl, zi_c (by simp [zsum, mOn, c_19]), rfl, trivial⟩
        · refine zj_iconst (v := 1) X dX2_countWorks_22 rfl ?_
          refine zj_goto (tgt := 27) X dX2_countWorks_23 (by decide) ?_
          refine zj_iadd X dX2_countWorks_27 ?_
          refine zj_istore_n X dX2_countWorks_28 (by decide) ?_
          refine zj_iinc X dX2_countWorks_29 rfl (zi_1 i) (by decide) ?_
          refine zj_goto (tgt := 4) X dX2_countWorks_32 (by decide) ?_
          exact zj_lo (ih_4 (i + 1) (by omega) (by omega)) ⟨rfl, zi_c (by simp [zsum, mOn, c_19]), rfl, trivial⟩
  exact zj_lo (L_4 (n + 1) 0 (Nat.zero_le _) (by omega)) ⟨rfl, rfl, rfl, trivial⟩

set_option maxHeartbeats 4000000 in
theorem cm_countReviews (l : Launch) (g : zz_G) {h0 h : zz_H} {m : Nat} {ad : Nat → Nat} {n : Nat} {σ : Nat → Nat → Int32} (hM : MR h0 h m ad n σ) (w : Nat) (hw : w < n) : zz_C l g yX2_countReviews cX2_countReviews 4 (some .int) (zz_rm 2 41 0 0) [.ref m, .int (nI w)] h (fun r h' => r = some (.int (mReviews n σ w)) ∧ h' = h) := by
  refine zz_C.of (by decide) (Nat.le_of_ble_eq_true rfl) (fun pP eE sS mM aA bB tT cC X Q hQ => ?_)
  have hn := hM.le
  refine zj_iconst (v := 0) X dX2_countReviews_0 rfl ?_
  refine zj_istore_n X dX2_countReviews_1 (by decide) ?_
  refine zj_iconst (v := 0) X dX2_countReviews_2 rfl ?_
  refine zj_istore_n X dX2_countReviews_3 (by decide) ?_
  have L_4 : ∀ k_4 : Nat, ∀ (i : Nat), i ≤ n → n < i + k_4 → zz_J pP l eE (zz_rm 2 41 0 0) sS mM aA bB tT cC g 4 Q h 0 0 4 [(0, .ref m), (1, .int (nI w)), (2, .int (zsum (fun p => mRev σ p w) i)), (3, .int (nI i))] [] := by
    intro k_4
    induction k_4 with
    | zero =>
      intro i h1 h2
      omega
    | succ k_4 ih_4 =>
      intro i h1 h2
      refine zj_iload_n X dX2_countReviews_4 rfl ?_
      refine zj_aload_n X dX2_countReviews_5 rfl ?_
      refine zj_get X in_X2 rfl 0 (by decide) q1141 (fun _ h => h) hM.o rfl (Or.inl (by decide)) dX2_countReviews_6 ?_
      refine zj_icmp_ge (tgt := 40) X dX2_countReviews_9 (by decide) (fun c_9 => ?_) (fun c_9 => ?_)
      · have e_9 := zi_ge h1 (by omega) c_9
        refine zj_iload_n X dX2_countReviews_40 rfl ?_
        exact zj_iret X hQ (⟨by rw [e_9]; rfl, rfl⟩) rfl (Nat.le_of_ble_eq_true rfl) (Nat.le_of_ble_eq_true rfl) dX2_countReviews_41
      · have e_9 := zi_lt h1 (by omega) c_9
        refine zj_iload_n X dX2_countReviews_12 rfl ?_
        refine zj_aload_n X dX2_countReviews_13 rfl ?_
        refine zj_get X in_X2 rfl 10 (by decide) q1151 (fun _ h => h) hM.o rfl (Or.inl (by decide)) dX2_countReviews_14 ?_
        refine zj_iload_n X dX2_countReviews_17 rfl ?_
        refine zj_iload_n X dX2_countReviews_18 rfl ?_
        refine zj_callSp (n := 2) (As := [_, _]) X (cm_at l g _ _ _) ⟨by decide, by decide, by decide +kernel⟩ (lw_S q1264 q1265 q50 q1266) ⟨Nat.le_of_ble_eq_true rfl, Nat.le_of_ble_eq_true rfl⟩ rfl rfl (Nat.le_of_ble_eq_true rfl) ⟨Nat.le_of_ble_eq_true rfl, Nat.le_of_ble_eq_true rfl⟩ dX2_countReviews_19 ?_
        refine zj_iald X (hM.arr 10 rfl) (rfl) (by show _ < 256; omega) (by omega) dX2_countReviews_22 ?_
        refine zj_iconst (v := (-1)) X dX2_countReviews_23 rfl ?_
        refine zj_icmp_ne (tgt := 31) X dX2_countReviews_24 (by decide) (fun c_24 => ?_) (fun c_24 => ?_)
        · refine zj_iconst (v := 1) X dX2_countReviews_31 rfl ?_
          refine zj_iadd X dX2_countReviews_32 ?_
          refine zj_istore_n X dX2_countReviews_33 (by decide) ?_
          refine zj_iinc X dX2_countReviews_34 rfl (zi_1 i) (by decide) ?_
          refine zj_goto (tgt := 4) X dX2_countReviews_37 (by decide) ?_
          exact zj_lo (ih_4 (i + 1) (by omega) (by omega)) ⟨rfl, rfl, zi_c (by simp [zsum, mRev, c_24]), rfl, trivial⟩
        · refine zj_iconst (v := 0) X dX2_countReviews_27 rfl ?_
          refine zj_goto (tgt := 32) X dX2_countReviews_28 (by decide) ?_
          refine zj_iadd X dX2_countReviews_32 ?_
          refine zj_istore_n X dX2_countReviews_33 (by decide) ?_
          refine zj_iinc X dX2_countReviews_34 rfl (zi_1 i) (by decide) ?_
          refine zj_goto (tgt := 4) X dX2_countReviews_37 (by decide) ?_
          exact zj_lo (ih_4 (i + 1) (by omega) (by omega)) ⟨rfl, rfl, zi_c (by simp [zsum, mRev, c_24]), rfl, trivial⟩
  exact zj_lo (L_4 (n + 1) 0 (Nat.zero_le _) (by omega)) ⟨rfl, rfl, rfl, rfl, trivial⟩

set_option maxHeartbeats 4000000 in
theorem cm_counts (l : Launch) (g : zz_G) {h0 h : zz_H} {m : Nat} {ad : Nat → Nat} {n : Nat} {σ : Nat → Nat → Int32} (hM : MR h0 h m ad n σ) (p w : Nat) (hp : p < n) (hw : w < n) : zz_C l g yX2_counts cX2_counts 5 (some .int) (zz_rm 2 41 0 0) [.ref m, .int (nI p), .int (nI w)] h (fun r h' => r = some (.int (mCounts σ p w)) ∧ h' = h) := by
  refine zz_C.of (by decide) (Nat.le_of_ble_eq_true rfl) (fun pP eE sS mM aA bB tT cC X Q hQ => ?_)
  have hn := hM.le
  refine zj_iload_n X dX2_counts_0 rfl ?_
  refine zj_iload_n X dX2_counts_1 rfl ?_
  refine zj_callSp (n := 2) (As := [_, _]) X (cm_at l g _ _ _) ⟨by decide, by decide, by decide +kernel⟩ (lw_S q1264 q1265 q50 q1266) ⟨Nat.le_of_ble_eq_true rfl, Nat.le_of_ble_eq_true rfl⟩ rfl rfl (Nat.le_of_ble_eq_true rfl) ⟨Nat.le_of_ble_eq_true rfl, Nat.le_of_ble_eq_true rfl⟩ dX2_counts_2 ?_
  refine zj_istore_n X dX2_counts_5 (by decide) ?_
  refine zj_aload_n X dX2_counts_6 rfl ?_
  refine zj_get X in_X2 rfl 11 (by decide) q1152 (fun _ h => h) hM.o rfl (Or.inl (by decide)) dX2_counts_7 ?_
  refine zj_iload_n X dX2_counts_10 rfl ?_
  refine zj_iald X (hM.arr 11 rfl) (rfl) (by show _ < 256; omega) (by omega) dX2_counts_11 ?_
  refine zj_aload_n X dX2_counts_12 rfl ?_
  refine zj_get X in_X2 rfl 12 (by decide) q1153 (fun _ h => h) hM.o rfl (Or.inl (by decide)) dX2_counts_13 ?_
  refine zj_icmp_le (tgt := 28) X dX2_counts_16 (by decide) (fun c_16 => ?_) (fun c_16 => ?_)
  · have e_16 := Int32.not_lt.mpr c_16
    refine zj_iconst (v := 2) X dX2_counts_28 rfl ?_
    refine zj_aload_n X dX2_counts_29 rfl ?_
    refine zj_get X in_X2 rfl 3 (by decide) q1144 (fun _ h => h) hM.o rfl (Or.inl (by decide)) dX2_counts_30 ?_
    refine zj_iload_n X dX2_counts_33 rfl ?_
    refine zj_iald X (hM.arr 3 rfl) (rfl) (by show _ < 16; omega) (by omega) dX2_counts_34 ?_
    refine zj_imul X dX2_counts_35 ?_
    refine zj_istore X dX2_counts_36 (by decide) ?_
    refine zj_aload_n X dX2_counts_38 rfl ?_
    refine zj_get X in_X2 rfl 10 (by decide) q1151 (fun _ h => h) hM.o rfl (Or.inl (by decide)) dX2_counts_39 ?_
    refine zj_iload_n X dX2_counts_42 rfl ?_
    refine zj_iald X (hM.arr 10 rfl) (rfl) (by show _ < 256; omega) (by omega) dX2_counts_43 ?_
    refine zj_iconst (v := (-1)) X dX2_counts_44 rfl ?_
    refine zj_icmp_ne (tgt := 52) X dX2_counts_45 (by decide) (fun c_45 => ?_) (fun c_45 => ?_)
    · refine zj_aload_n X dX2_counts_52 rfl ?_
      refine zj_get X in_X2 rfl 9 (by decide) q1150 (fun _ h => h) hM.o rfl (Or.inl (by decide)) dX2_counts_53 ?_
      refine zj_iload_n X dX2_counts_56 rfl ?_
      refine zj_zald X (hM.arr 9 rfl) (rfl) (by show _ < 256; omega) (by omega) dX2_counts_57 ?_
      refine zj_if_eq (tgt := 68) X dX2_counts_58 (by decide) (fun c_58 => ?_) (fun c_58 => ?_)
      · refine zj_iload X dX2_counts_68 rfl ?_
        exact zj_iret X hQ (⟨by simp [mCounts, *], rfl⟩) rfl (Nat.le_of_ble_eq_true rfl) (Nat.le_of_ble_eq_true rfl) dX2_counts_70
      · refine zj_iconst (v := 2) X dX2_counts_61 rfl ?_
        refine zj_iload X dX2_counts_62 rfl ?_
        refine zj_imul X dX2_counts_64 ?_
        refine zj_goto (tgt := 70) X dX2_counts_65 (by decide) ?_
        exact zj_iret X hQ (⟨by simp [mCounts, *], rfl⟩) rfl (Nat.le_of_ble_eq_true rfl) (Nat.le_of_ble_eq_true rfl) dX2_counts_70
    · refine zj_iconst (v := 0) X dX2_counts_48 rfl ?_
      refine zj_goto (tgt := 70) X dX2_counts_49 (by decide) ?_
      exact zj_iret X hQ (⟨by simp [mCounts, *], rfl⟩) rfl (Nat.le_of_ble_eq_true rfl) (Nat.le_of_ble_eq_true rfl) dX2_counts_70
  · have e_16 := Int32.not_le.mp c_16
    refine zj_aload_n X dX2_counts_19 rfl ?_
    refine zj_get X in_X2 rfl 3 (by decide) q1144 (fun _ h => h) hM.o rfl (Or.inl (by decide)) dX2_counts_20 ?_
    refine zj_iload_n X dX2_counts_23 rfl ?_
    refine zj_iald X (hM.arr 3 rfl) (rfl) (by show _ < 16; omega) (by omega) dX2_counts_24 ?_
    refine zj_goto (tgt := 36) X dX2_counts_25 (by decide) ?_
    refine zj_istore X dX2_counts_36 (by decide) ?_
    refine zj_aload_n X dX2_counts_38 rfl ?_
    refine zj_get X in_X2 rfl 10 (by decide) q1151 (fun _ h => h) hM.o rfl (Or.inl (by decide)) dX2_counts_39 ?_
    refine zj_iload_n X dX2_counts_42 rfl ?_
    refine zj_iald X (hM.arr 10 rfl) (rfl) (by show _ < 256; omega) (by omega) dX2_counts_43 ?_
    refine zj_iconst (v := (-1)) X dX2_counts_44 rfl ?_
    refine zj_icmp_ne (tgt := 52) X dX2_counts_45 (by decide) (fun c_45 => ?_) (fun c_45 => ?_)
    · refine zj_aload_n X dX2_counts_52 rfl ?_
      refine zj_get X in_X2 rfl 9 (by decide) q1150 (fun _ h => h) hM.o rfl (Or.inl (by decide)) dX2_counts_53 ?_
      refine zj_iload_n X dX2_counts_56 rfl ?_
      refine zj_zald X (hM.arr 9 rfl) (rfl) (by show _ < 256; omega) (by omega) dX2_counts_57 ?_
      refine zj_if_eq (tgt := 68) X dX2_counts_58 (by decide) (fun c_58 => ?_) (fun c_58 => ?_)
      · refine zj_iload X dX2_counts_68 rfl ?_
        exact zj_iret X hQ (⟨by simp [mCounts, *], rfl⟩) rfl (Nat.le_of_ble_eq_true rfl) (Nat.le_of_ble_eq_true rfl) dX2_counts_70
      · refine zj_iconst (v := 2) X dX2_counts_61 rfl ?_
        refine zj_iload X dX2_counts_62 rfl ?_
        refine zj_imul X dX2_counts_64 ?_
        refine zj_goto (tgt := 70) X dX2_counts_65 (by decide) ?_
        exact zj_iret X hQ (⟨by simp [mCounts, *], rfl⟩) rfl (Nat.le_of_ble_eq_true rfl) (Nat.le_of_ble_eq_true rfl) dX2_counts_70
    · refine zj_iconst (v := 0) X dX2_counts_48 rfl ?_
      refine zj_goto (tgt := 70) X dX2_counts_49 (by decide) ?_
      exact zj_iret X hQ (⟨by simp [mCounts, *], rfl⟩) rfl (Nat.le_of_ble_eq_true rfl) (Nat.le_of_ble_eq_true rfl) dX2_counts_70

set_option maxHeartbeats 4000000 in
theorem cm_isNear (l : Launch) (g : zz_G) {h0 h : zz_H} {m : Nat} {ad : Nat → Nat} {n : Nat} {σ : Nat → Nat → Int32} (hM : MR h0 h m ad n σ) (p w : Nat) (hp : p < n) (hw : w < n) (mid most : Int32) : zz_C l g yX2_isNear cX2_isNear 6 (some .boolean) (zz_rm 2 41 0 0) [.ref m, .int (nI p), .int (nI w), .int mid, .int most] h (fun r h' => r = some (.int (zb (mNear σ p w mid most))) ∧ h' = h) := by
  refine zz_C.of (by decide) (Nat.le_of_ble_eq_true rfl) (fun pP eE sS mM aA bB tT cC X Q hQ => ?_)
  have hn := hM.le
  refine zj_aload_n X dX2_isNear_0 rfl ?_
  refine zj_get X in_X2 rfl 10 (by decide) q1151 (fun _ h => h) hM.o rfl (Or.inl (by decide)) dX2_isNear_1 ?_
  refine zj_iload_n X dX2_isNear_4 rfl ?_
  refine zj_iload_n X dX2_isNear_5 rfl ?_
  refine zj_callSp (n := 2) (As := [_, _]) X (cm_at l g _ _ _) ⟨by decide, by decide, by decide +kernel⟩ (lw_S q1264 q1265 q50 q1266) ⟨Nat.le_of_ble_eq_true rfl, Nat.le_of_ble_eq_true rfl⟩ rfl rfl (Nat.le_of_ble_eq_true rfl) ⟨Nat.le_of_ble_eq_true rfl, Nat.le_of_ble_eq_true rfl⟩ dX2_isNear_6 ?_
  refine zj_iald X (hM.arr 10 rfl) (rfl) (by show _ < 256; omega) (by omega) dX2_isNear_9 ?_
  refine zj_istore X dX2_isNear_10 (by decide) ?_
  refine zj_iload X dX2_isNear_12 rfl ?_
  refine zj_iconst (v := (-1)) X dX2_isNear_14 rfl ?_
  refine zj_icmp_eq (tgt := 34) X dX2_isNear_15 (by decide) (fun c_15 => ?_) (fun c_15 => ?_)
  · refine zj_iconst (v := 0) X dX2_isNear_34 rfl ?_
    exact zj_zret X hQ (⟨by first | (simp [mNear, c_15, zb]; done) | (have := Int32.not_le.mpr c_27; simp [mNear, c_15, zb, this]; done) | (have := Int32.not_lt.mp c_27; simp [mNear, c_15, zb, this]), rfl⟩) rfl (by decide) (Nat.le_of_ble_eq_true rfl) (Nat.le_of_ble_eq_true rfl) dX2_isNear_35
  · refine zj_iload X dX2_isNear_18 rfl ?_
    refine zj_iload_n X dX2_isNear_20 rfl ?_
    refine zj_isub X dX2_isNear_21 ?_
    refine zj_mabs X q1319 q436 q58 q437 ⟨Nat.le_of_ble_eq_true rfl, Nat.le_of_ble_eq_true rfl⟩ ⟨Nat.le_of_ble_eq_true rfl, Nat.le_of_ble_eq_true rfl⟩ dX2_isNear_22 ?_
    refine zj_iload X dX2_isNear_25 rfl ?_
    refine zj_icmp_gt (tgt := 34) X dX2_isNear_27 (by decide) (fun c_27 => ?_) (fun c_27 => ?_)
    · refine zj_iconst (v := 0) X dX2_isNear_34 rfl ?_
      exact zj_zret X hQ (⟨by first | (simp [mNear, c_15, zb]; done) | (have := Int32.not_le.mpr c_27; simp [mNear, c_15, zb, this]; done) | (have := Int32.not_lt.mp c_27; simp [mNear, c_15, zb, this]), rfl⟩) rfl (by decide) (Nat.le_of_ble_eq_true rfl) (Nat.le_of_ble_eq_true rfl) dX2_isNear_35
    · refine zj_iconst (v := 1) X dX2_isNear_30 rfl ?_
      refine zj_goto (tgt := 35) X dX2_isNear_31 (by decide) ?_
      exact zj_zret X hQ (⟨by first | (simp [mNear, c_15, zb]; done) | (have := Int32.not_le.mpr c_27; simp [mNear, c_15, zb, this]; done) | (have := Int32.not_lt.mp c_27; simp [mNear, c_15, zb, this]), rfl⟩) rfl (by decide) (Nat.le_of_ble_eq_true rfl) (Nat.le_of_ble_eq_true rfl) dX2_isNear_35

set_option maxHeartbeats 4000000 in
theorem cm_countBelow (l : Launch) (g : zz_G) {h0 h : zz_H} {m : Nat} {ad : Nat → Nat} {n : Nat} {σ : Nat → Nat → Int32} (hM : MR h0 h m ad n σ) (w : Nat) (hw : w < n) (mark mid most : Int32) : zz_C l g yX2_countBelow cX2_countBelow 8 (some .int) (zz_rm 3 66 0 0) [.ref m, .int (nI w), .int mark, .int mid, .int most] h (fun r h' => r = some (.int (mBelow n σ w mark mid most)) ∧ h' = h) := by
  refine zz_C.of (by decide) (Nat.le_of_ble_eq_true rfl) (fun pP eE sS mM aA bB tT cC X Q hQ => ?_)
  have hn := hM.le
  refine zj_iconst (v := 0) X dX2_countBelow_0 rfl ?_
  refine zj_istore X dX2_countBelow_1 (by decide) ?_
  refine zj_iconst (v := 0) X dX2_countBelow_3 rfl ?_
  refine zj_istore X dX2_countBelow_4 (by decide) ?_
  have L_6 : ∀ k_6 : Nat, ∀ (i : Nat), i ≤ n → n < i + k_6 → zz_J pP l eE (zz_rm 3 66 0 0) sS mM aA bB tT cC g 8 Q h 0 0 6 [(0, .ref m), (1, .int (nI w)), (2, .int mark), (3, .int mid), (4, .int most), (5, .int (zsum (fun p => if mNear σ p w mid most = true ∧ σ 10 (16 * w + p) ≤ mark then mCounts σ p w else 0) i)), (6, .int (nI i))] [] := by
    intro k_6
    induction k_6 with
    | zero =>
      intro i h1 h2
      omega
    | succ k_6 ih_6 =>
      intro i h1 h2
      refine zj_iload X dX2_countBelow_6 rfl ?_
      refine zj_aload_n X dX2_countBelow_8 rfl ?_
      refine zj_get X in_X2 rfl 0 (by decide) q1141 (fun _ h => h) hM.o rfl (Or.inl (by decide)) dX2_countBelow_9 ?_
      refine zj_icmp_ge (tgt := 77) X dX2_countBelow_12 (by decide) (fun c_12 => ?_) (fun c_12 => ?_)
      · have e_12 := zi_ge h1 (by omega) c_12
        refine zj_iload X dX2_countBelow_77 rfl ?_
        exact zj_iret X hQ (⟨by rw [e_12]; rfl, rfl⟩) rfl (Nat.le_of_ble_eq_true rfl) (Nat.le_of_ble_eq_true rfl) dX2_countBelow_79
      · have e_12 := zi_lt h1 (by omega) c_12
        refine zj_aload_n X dX2_countBelow_15 rfl ?_
        refine zj_iload X dX2_countBelow_16 rfl ?_
        refine zj_iload_n X dX2_countBelow_18 rfl ?_
        refine zj_iload_n X dX2_countBelow_19 rfl ?_
        refine zj_iload X dX2_countBelow_20 rfl ?_
        refine zj_callVp (n := 4) (As := [_, _, _, _]) X (cm_isNear l g hM i w e_12 hw _ _) hM.o rfl rfl ⟨by decide, by decide, by decide +kernel⟩ (lw_V q1348 q1350 qs39 q50 q1351) ⟨Nat.le_of_ble_eq_true rfl, Nat.le_of_ble_eq_true rfl⟩ rfl rfl (Nat.le_of_ble_eq_true rfl) ⟨Nat.le_of_ble_eq_true rfl, Nat.le_of_ble_eq_true rfl⟩ dX2_countBelow_22 ?_
        refine zj_if_eq (tgt := 47) X dX2_countBelow_25 (by decide) (fun c_25 => ?_) (fun c_25 => ?_)
        · have e_25 := zb_0.mp c_25
          refine zj_iconst (v := 0) X dX2_countBelow_47 rfl ?_
          refine zj_istore X dX2_countBelow_48 (by decide) ?_
          refine zj_iload X dX2_countBelow_50 rfl ?_
          refine zj_iload X dX2_countBelow_52 rfl ?_
          refine zj_if_eq (tgt := 67) X dX2_countBelow_54 (by decide) (fun c_54 => ?_) (fun c_54 => absurd (by decide) c_54)
          refine zj_iconst (v := 0) X dX2_countBelow_67 rfl ?_
          refine zj_iadd X dX2_countBelow_68 ?_
          refine zj_istore X dX2_countBelow_69 (by decide) ?_
          refine zj_iinc X dX2_countBelow_71 rfl (zi_1 i) (by decide) ?_
          refine zj_goto (tgt := 6) X dX2_countBelow_74 (by decide) ?_
          exact zj_lo (ih_6 (i + 1) (by omega) (by omega)) ⟨rfl, rfl, rfl, rfl, rfl, zi_c (by first | (simp [zsum, e_25]; done) | (have := Int32.not_le.mpr c_40; simp [zsum, e_25, this]; done) | (have := Int32.not_lt.mp c_40; simp [zsum, e_25, this])), rfl, trivial⟩
        · have e_25 := zb_n.mp c_25
          refine zj_aload_n X dX2_countBelow_28 rfl ?_
          refine zj_get X in_X2 rfl 10 (by decide) q1151 (fun _ h => h) hM.o rfl (Or.inl (by decide)) dX2_countBelow_29 ?_
          refine zj_iload X dX2_countBelow_32 rfl ?_
          refine zj_iload_n X dX2_countBelow_34 rfl ?_
          refine zj_callSp (n := 2) (As := [_, _]) X (cm_at l g _ _ _) ⟨by decide, by decide, by decide +kernel⟩ (lw_S q1264 q1265 q50 q1266) ⟨Nat.le_of_ble_eq_true rfl, Nat.le_of_ble_eq_true rfl⟩ rfl rfl (Nat.le_of_ble_eq_true rfl) ⟨Nat.le_of_ble_eq_true rfl, Nat.le_of_ble_eq_true rfl⟩ dX2_countBelow_35 ?_
          refine zj_iald X (hM.arr 10 rfl) (rfl) (by show _ < 256; omega) (by omega) dX2_countBelow_38 ?_
          refine zj_iload_n X dX2_countBelow_39 rfl ?_
          refine zj_icmp_gt (tgt := 47) X dX2_countBelow_40 (by decide) (fun c_40 => ?_) (fun c_40 => ?_)
          · refine zj_iconst (v := 0) X dX2_countBelow_47 rfl ?_
            refine zj_istore X dX2_countBelow_48 (by decide) ?_
            refine zj_iload X dX2_countBelow_50 rfl ?_
            refine zj_iload X dX2_countBelow_52 rfl ?_
            refine zj_if_eq (tgt := 67) X dX2_countBelow_54 (by decide) (fun c_54 => ?_) (fun c_54 => absurd (by decide) c_54)
            refine zj_iconst (v := 0) X dX2_countBelow_67 rfl ?_
            refine zj_iadd X dX2_countBelow_68 ?_
            refine zj_istore X dX2_countBelow_69 (by decide) ?_
            refine zj_iinc X dX2_countBelow_71 rfl (zi_1 i) (by decide) ?_
            refine zj_goto (tgt := 6) X dX2_countBelow_74 (by decide) ?_
            exact zj_lo (ih_6 (i + 1) (by omega) (by omega)) ⟨rfl, rfl, rfl, rfl, rfl, zi_c (by first | (simp [zsum, e_25]; done) | (have := Int32.not_le.mpr c_40; simp [zsum, e_25, this]; done) | (have := Int32.not_lt.mp c_40; simp [zsum, e_25, this])), rfl, trivial⟩
          · refine zj_iconst (v := 1) X dX2_countBelow_43 rfl ?_
            refine zj_goto (tgt := 48) X dX2_countBelow_44 (by decide) ?_
            refine zj_istore X dX2_countBelow_48 (by decide) ?_
            refine zj_iload X dX2_countBelow_50 rfl ?_
            refine zj_iload X dX2_countBelow_52 rfl ?_
            refine zj_if_eq (tgt := 67) X dX2_countBelow_54 (by decide) (fun c_54 => absurd c_54 (by decide)) (fun c_54 => ?_)
            refine zj_aload_n X dX2_countBelow_57 rfl ?_
            refine zj_iload X dX2_countBelow_58 rfl ?_
            refine zj_iload_n X dX2_countBelow_60 rfl ?_
            refine zj_callVp (n := 2) (As := [_, _]) X (cm_counts l g hM i w e_12 hw) hM.o rfl rfl ⟨by decide, by decide, by decide +kernel⟩ (lw_V q1352 q1354 qs40 q50 q1355) ⟨Nat.le_of_ble_eq_true rfl, Nat.le_of_ble_eq_true rfl⟩ rfl rfl (Nat.le_of_ble_eq_true rfl) ⟨Nat.le_of_ble_eq_true rfl, Nat.le_of_ble_eq_true rfl⟩ dX2_countBelow_61 ?_
            refine zj_goto (tgt := 68) X dX2_countBelow_64 (by decide) ?_
            refine zj_iadd X dX2_countBelow_68 ?_
            refine zj_istore X dX2_countBelow_69 (by decide) ?_
            refine zj_iinc X dX2_countBelow_71 rfl (zi_1 i) (by decide) ?_
            refine zj_goto (tgt := 6) X dX2_countBelow_74 (by decide) ?_
            exact zj_lo (ih_6 (i + 1) (by omega) (by omega)) ⟨rfl, rfl, rfl, rfl, rfl, zi_c (by first | (simp [zsum, e_25]; done) | (have := Int32.not_le.mpr c_40; simp [zsum, e_25, this]; done) | (have := Int32.not_lt.mp c_40; simp [zsum, e_25, this])), rfl, trivial⟩
  exact zj_lo (L_6 (n + 1) 0 (Nat.zero_le _) (by omega)) ⟨rfl, rfl, rfl, rfl, rfl, rfl, rfl, trivial⟩

