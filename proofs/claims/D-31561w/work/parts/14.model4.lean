set_option maxRecDepth 100000
/-! THE REFERENCE: its public methods -/
/-- what an operation answers: thrown, the answer, people, cells -/
abbrev zS : Type := Int32 × Int32 × Nat × (Nat → Nat → Int32)
def zs (h0 : zz_H) (m : Nat) (ad : Nat → Nat) (r : zS) : Option Value → zz_H → Prop := zm h0 m ad r.2.1 r.1 r.2.2.1 r.2.2.2
theorem zs_of {h0 h' : zz_H} {m : Nat} {ad : Nat → Nat} {s : zS} {th r : Int32} {n : Nat} {σ : Nat → Nat → Int32} {v : Option Value} (e : s = (th, r, n, σ)) (h : zm h0 m ad r th n σ v h') : zs h0 m ad s v h' := by
  rw [e]
  exact h
theorem mEq.st {σ1 σ : Nat → Nat → Int32} (hE : mEq σ1 σ) {k j : Nat} {x x' : Int32} (h1 : 1 ≤ k) (h2 : k ≤ 13) (hx : x = x') : mEq (zk σ1 k (upd (σ1 k) j x)) (zk σ k (upd (σ k) j x')) := by
  rw [hE k h1 h2, hx]
  exact hE.zku k _
theorem nar_1 : vp_nar .boolean 1 = 1 := by decide
theorem nar_0 : vp_nar .boolean 0 = 0 := by decide
def inB (a b x : Int32) : Bool := decide (a ≤ x ∧ x ≤ b)
def cN (x : Int32) : Nat := x.toNatClampNeg
theorem cN_j {j : Nat} (h : j < 65536) : cN (nI j) = j := nI_clamp (by omega)
def bitA (p : Nat) : Int32 := (1 : Int32) <<< (nI p &&& 31)
def spAdd (n : Nat) (σ : Nat → Nat → Int32) (x : Int32) : zS := if inB 0 5 x = true then (if n = 16 then (2, 0, n, σ) else (0, nI n, n + 1, zk (zk σ 1 (upd (σ 1) n x)) 3 (upd (σ 3) n 5))) else (1, 0, n, σ)
def stHand (σ : Nat → Nat → Int32) (j : Nat) : Nat → Nat → Int32 := zk σ 2 (upd (σ 2) j 1)
def spHand (n : Nat) (σ : Nat → Nat → Int32) (x : Int32) : zS := if isPB n x = true then (if σ 2 (cN x) = 0 then (0, mWorks n (stHand σ (cN x)), n, stHand σ (cN x)) else (2, 0, n, σ)) else (1, 0, n, σ)
def spDue (n : Nat) (σ : Nat → Nat → Int32) (x : Int32) : zS := if inB 0 99 x = true then (0, σ 12 0, n, zk σ 12 (fun _ => x)) else (1, 0, n, σ)
def spTol (n : Nat) (σ : Nat → Nat → Int32) (x : Int32) : zS := if inB 0 100 x = true then (0, σ 13 0, n, zk σ 13 (fun _ => x)) else (1, 0, n, σ)
def spRdOf (n : Nat) (σ : Nat → Nat → Int32) (x : Int32) : zS := if isWB n σ x = true then (0, zor (fun p => if σ 7 (16 * cN x + p) = 0 then 0 else bitA p) n, n, σ) else (1, 0, n, σ)
def spMay (n : Nat) (σ : Nat → Nat → Int32) (x : Int32) : zS := if isWB n σ x = true then (0, zor (fun p => if mMay σ p (cN x) = true then bitA p else 0) n, n, σ) else (1, 0, n, σ)
def spLoad (n : Nat) (σ : Nat → Nat → Int32) (x : Int32) : zS := if isPB n x = true then (0, mLoad n σ (cN x), n, σ) else (1, 0, n, σ)
def spWt (n : Nat) (σ : Nat → Nat → Int32) (x : Int32) : zS := if isPB n x = true then (0, σ 3 (cN x), n, σ) else (1, 0, n, σ)
def spRevs (n : Nat) (σ : Nat → Nat → Int32) (x : Int32) : zS := if isWB n σ x = true then (0, mReviews n σ (cN x), n, σ) else (1, 0, n, σ)
def spCts (n : Nat) (σ : Nat → Nat → Int32) (x y : Int32) : zS := if isPB n x = true ∧ isWB n σ y = true then (0, mCounts σ (cN x) (cN y), n, σ) else (1, 0, n, σ)
def spGrade (n : Nat) (σ : Nat → Nat → Int32) (x : Int32) : zS := if isPB n x = true then (0, (4 * zmax 0 (mMark n σ (cN x)) + 10 * σ 3 (cN x)) / 5, n, σ) else (1, 0, n, σ)
def mMiss (n : Nat) (σ : Nat → Nat → Int32) (d : Int32) : Int32 := if σ 12 0 < d then zsum (fun w => mReaders n σ w - mReviews n σ w) n else 0
def spMiss (n : Nat) (σ : Nat → Nat → Int32) (x : Int32) : zS := if inB 0 99 x = true then (0, mMiss n σ x, n, σ) else (1, 0, n, σ)
def spMkOf (n : Nat) (σ : Nat → Nat → Int32) (x : Int32) : zS := if isWB n σ x = true then (if mMark n σ (cN x) = -1 then (2, 0, n, σ) else (0, mMark n σ (cN x), n, σ)) else (1, 0, n, σ)

set_option maxHeartbeats 4000000 in
theorem cm_fail (l : Launch) (g : zz_G) {h0 h : zz_H} {m : Nat} {ad : Nat → Nat} {n : Nat} {σ : Nat → Nat → Int32} (hM : MR h0 h m ad n σ) (x : Int32) : zz_C l g yX2_fail cX2_fail 2 (some .int) (zz_rm 1 20 0 0) [.ref m, .int x] h (zm h0 m ad 0 x n σ) := by
  refine zz_C.of (by decide) (Nat.le_of_ble_eq_true rfl) (fun pP eE sS mM aA bB tT cC X Q hQ => ?_)
  refine zj_aload_n X dX2_fail_0 rfl ?_
  refine zj_iload_n X dX2_fail_1 rfl ?_
  refine zj_put X in_X2 tyX2 tyX2_ok nmX2 rfl 14 (by decide) q1155 (fun _ h => h) rfl hM.o rfl rfl (Nat.le_of_ble_eq_true rfl) (Or.inl (by decide)) dX2_fail_2 ?_
  obtain ⟨σ1, hM, hE, h14⟩ := zm_14 hM x
  refine zj_iconst (v := 0) X dX2_fail_5 rfl ?_
  exact zj_iret X hQ (⟨rfl, σ1, hM, hE, h14⟩) rfl (Nat.le_of_ble_eq_true rfl) (Nat.le_of_ble_eq_true rfl) dX2_fail_6

set_option maxHeartbeats 4000000 in
theorem cm_tell (l : Launch) (g : zz_G) {h0 h : zz_H} {m : Nat} {ad : Nat → Nat} {n : Nat} {σ : Nat → Nat → Int32} (hM : MR h0 h m ad n σ) (x : Int32) : zz_C l g yX2_tell cX2_tell 2 (some .int) (zz_rm 1 20 0 0) [.ref m, .int x] h (zm h0 m ad x 0 n σ) := by
  refine zz_C.of (by decide) (Nat.le_of_ble_eq_true rfl) (fun pP eE sS mM aA bB tT cC X Q hQ => ?_)
  refine zj_aload_n X dX2_tell_0 rfl ?_
  refine zj_iconst (v := 0) X dX2_tell_1 rfl ?_
  refine zj_put X in_X2 tyX2 tyX2_ok nmX2 rfl 14 (by decide) q1155 (fun _ h => h) rfl hM.o rfl rfl (Nat.le_of_ble_eq_true rfl) (Or.inl (by decide)) dX2_tell_2 ?_
  obtain ⟨σ1, hM, hE, h14⟩ := zm_14 hM 0
  refine zj_iload_n X dX2_tell_5 rfl ?_
  exact zj_iret X hQ (⟨rfl, σ1, hM, hE, h14⟩) rfl (Nat.le_of_ble_eq_true rfl) (Nat.le_of_ble_eq_true rfl) dX2_tell_6

set_option maxHeartbeats 4000000 in
theorem cm_thrown (l : Launch) (g : zz_G) {h0 h : zz_H} {m : Nat} {ad : Nat → Nat} {n : Nat} {σ : Nat → Nat → Int32} (hM : MR h0 h m ad n σ) : zz_C l g yX2_thrown cX2_thrown 1 (some .int) (zz_rm 1 20 0 0) [.ref m] h (fun r h' => r = some (.int (σ 14 0)) ∧ h' = h) := by
  refine zz_C.of (by decide) (Nat.le_of_ble_eq_true rfl) (fun pP eE sS mM aA bB tT cC X Q hQ => ?_)
  refine zj_aload_n X dX2_thrown_0 rfl ?_
  refine zj_get X in_X2 rfl 14 (by decide) q1155 (fun _ h => h) hM.o rfl (Or.inl (by decide)) dX2_thrown_1 ?_
  exact zj_iret X hQ (⟨rfl, rfl⟩) rfl (Nat.le_of_ble_eq_true rfl) (Nat.le_of_ble_eq_true rfl) dX2_thrown_4

set_option maxHeartbeats 4000000 in
theorem cm_setDue (l : Launch) (g : zz_G) {h0 h : zz_H} {m : Nat} {ad : Nat → Nat} {n : Nat} {σ : Nat → Nat → Int32} (hM : MR h0 h m ad n σ) (x : Int32) : zz_C l g yX2_setDue cX2_setDue 3 (some .int) (zz_rm 3 62 0 0) [.ref m, .int x] h (zs h0 m ad (spDue n σ x)) := by
  refine zz_C.of (by decide) (Nat.le_of_ble_eq_true rfl) (fun pP eE sS mM aA bB tT cC X Q hQ => ?_)
  have hn := hM.le
  refine zj_aload_n X dX2_setDue_0 rfl ?_
  refine zj_iconst (v := 0) X dX2_setDue_1 rfl ?_
  refine zj_put X in_X2 tyX2 tyX2_ok nmX2 rfl 14 (by decide) q1155 (fun _ h => h) rfl hM.o rfl rfl (Nat.le_of_ble_eq_true rfl) (Or.inl (by decide)) dX2_setDue_2 ?_
  obtain ⟨σ1, hM, hE, h14⟩ := zm_14 hM 0
  refine zj_iload_n X dX2_setDue_5 rfl ?_
  refine zj_callSp (n := 1) (As := [_]) X (cm_isDay l g _ _) ⟨by decide, by decide, by decide +kernel⟩ (lw_S q1230 q1231 q50 q1232) ⟨Nat.le_of_ble_eq_true rfl, Nat.le_of_ble_eq_true rfl⟩ rfl rfl (Nat.le_of_ble_eq_true rfl) ⟨Nat.le_of_ble_eq_true rfl, Nat.le_of_ble_eq_true rfl⟩ dX2_setDue_6 ?_
  refine zj_if_ne (tgt := 18) X dX2_setDue_9 (by decide) (fun c_9 => ?_) (fun c_9 => ?_)
  · have e_9 : inB 0 99 x = true := zb_n.mp c_9
    refine zj_aload_n X dX2_setDue_18 rfl ?_
    refine zj_get X in_X2 rfl 12 (by decide) q1153 (fun _ h => h) hM.o rfl (Or.inl (by decide)) dX2_setDue_19 ?_
    refine zj_istore_n X dX2_setDue_22 (by decide) ?_
    refine zj_aload_n X dX2_setDue_23 rfl ?_
    refine zj_iload_n X dX2_setDue_24 rfl ?_
    refine zj_put X in_X2 tyX2 tyX2_ok nmX2 rfl 12 (by decide) q1153 (fun _ h => h) rfl hM.o rfl rfl (Nat.le_of_ble_eq_true rfl) (Or.inl (by decide)) dX2_setDue_25 ?_
    have hM := hM.us 12 (by decide) x
    have hE2 : mEq (zk σ1 12 (fun _ => x)) (zk σ 12 (fun _ => x)) := hE.zku 12 _
    refine zj_iload_n X dX2_setDue_28 rfl ?_
    exact zj_iret X hQ (zs_of (by simp [spDue, e_9] <;> rfl) ⟨zi_c (by rw [hE 12 (by decide) (by decide)]), _, hM, hE2, h14⟩) rfl (Nat.le_of_ble_eq_true rfl) (Nat.le_of_ble_eq_true rfl) dX2_setDue_29
  · have e_9 : inB 0 99 x = false := zb_0.mp c_9
    refine zj_aload_n X dX2_setDue_12 rfl ?_
    refine zj_iconst (v := 1) X dX2_setDue_13 rfl ?_
    refine zj_callV (n := 1) (As := [_]) X (cm_fail l g hM _) hM.o rfl rfl ⟨by decide, by decide, by decide +kernel⟩ (lw_V q1233 q1235 qs24 q50 q1236) ⟨Nat.le_of_ble_eq_true rfl, Nat.le_of_ble_eq_true rfl⟩ rfl rfl (Nat.le_of_ble_eq_true rfl) ⟨Nat.le_of_ble_eq_true rfl, Nat.le_of_ble_eq_true rfl⟩ dX2_setDue_14 (fun v_14 h_14 p_14 => ?_)
    obtain ⟨e_14, σ2, hM2, hE2, h142⟩ := p_14
    subst e_14
    have hE2 := hE2.tr hE
    exact zj_iret X hQ (zs_of (by simp [spDue, e_9]) ⟨rfl, σ2, hM2, hE2, h142⟩) rfl (Nat.le_of_ble_eq_true rfl) (Nat.le_of_ble_eq_true rfl) dX2_setDue_17

set_option maxHeartbeats 4000000 in
theorem cm_setTolerance (l : Launch) (g : zz_G) {h0 h : zz_H} {m : Nat} {ad : Nat → Nat} {n : Nat} {σ : Nat → Nat → Int32} (hM : MR h0 h m ad n σ) (x : Int32) : zz_C l g yX2_setTolerance cX2_setTolerance 3 (some .int) (zz_rm 3 62 0 0) [.ref m, .int x] h (zs h0 m ad (spTol n σ x)) := by
  refine zz_C.of (by decide) (Nat.le_of_ble_eq_true rfl) (fun pP eE sS mM aA bB tT cC X Q hQ => ?_)
  have hn := hM.le
  refine zj_aload_n X dX2_setTolerance_0 rfl ?_
  refine zj_iconst (v := 0) X dX2_setTolerance_1 rfl ?_
  refine zj_put X in_X2 tyX2 tyX2_ok nmX2 rfl 14 (by decide) q1155 (fun _ h => h) rfl hM.o rfl rfl (Nat.le_of_ble_eq_true rfl) (Or.inl (by decide)) dX2_setTolerance_2 ?_
  obtain ⟨σ1, hM, hE, h14⟩ := zm_14 hM 0
  refine zj_iload_n X dX2_setTolerance_5 rfl ?_
  refine zj_callSp (n := 1) (As := [_]) X (cm_isMark l g _ _) ⟨by decide, by decide, by decide +kernel⟩ (lw_S q1241 q1242 q50 q1243) ⟨Nat.le_of_ble_eq_true rfl, Nat.le_of_ble_eq_true rfl⟩ rfl rfl (Nat.le_of_ble_eq_true rfl) ⟨Nat.le_of_ble_eq_true rfl, Nat.le_of_ble_eq_true rfl⟩ dX2_setTolerance_6 ?_
  refine zj_if_ne (tgt := 18) X dX2_setTolerance_9 (by decide) (fun c_9 => ?_) (fun c_9 => ?_)
  · have e_9 : inB 0 100 x = true := zb_n.mp c_9
    refine zj_aload_n X dX2_setTolerance_18 rfl ?_
    refine zj_get X in_X2 rfl 13 (by decide) q1154 (fun _ h => h) hM.o rfl (Or.inl (by decide)) dX2_setTolerance_19 ?_
    refine zj_istore_n X dX2_setTolerance_22 (by decide) ?_
    refine zj_aload_n X dX2_setTolerance_23 rfl ?_
    refine zj_iload_n X dX2_setTolerance_24 rfl ?_
    refine zj_put X in_X2 tyX2 tyX2_ok nmX2 rfl 13 (by decide) q1154 (fun _ h => h) rfl hM.o rfl rfl (Nat.le_of_ble_eq_true rfl) (Or.inl (by decide)) dX2_setTolerance_25 ?_
    have hM := hM.us 13 (by decide) x
    have hE2 : mEq (zk σ1 13 (fun _ => x)) (zk σ 13 (fun _ => x)) := hE.zku 13 _
    refine zj_iload_n X dX2_setTolerance_28 rfl ?_
    exact zj_iret X hQ (zs_of (by simp [spTol, e_9] <;> rfl) ⟨zi_c (by rw [hE 13 (by decide) (by decide)]), _, hM, hE2, h14⟩) rfl (Nat.le_of_ble_eq_true rfl) (Nat.le_of_ble_eq_true rfl) dX2_setTolerance_29
  · have e_9 : inB 0 100 x = false := zb_0.mp c_9
    refine zj_aload_n X dX2_setTolerance_12 rfl ?_
    refine zj_iconst (v := 1) X dX2_setTolerance_13 rfl ?_
    refine zj_callV (n := 1) (As := [_]) X (cm_fail l g hM _) hM.o rfl rfl ⟨by decide, by decide, by decide +kernel⟩ (lw_V q1233 q1235 qs24 q50 q1236) ⟨Nat.le_of_ble_eq_true rfl, Nat.le_of_ble_eq_true rfl⟩ rfl rfl (Nat.le_of_ble_eq_true rfl) ⟨Nat.le_of_ble_eq_true rfl, Nat.le_of_ble_eq_true rfl⟩ dX2_setTolerance_14 (fun v_14 h_14 p_14 => ?_)
    obtain ⟨e_14, σ2, hM2, hE2, h142⟩ := p_14
    subst e_14
    have hE2 := hE2.tr hE
    exact zj_iret X hQ (zs_of (by simp [spTol, e_9]) ⟨rfl, σ2, hM2, hE2, h142⟩) rfl (Nat.le_of_ble_eq_true rfl) (Nat.le_of_ble_eq_true rfl) dX2_setTolerance_17

set_option maxHeartbeats 4000000 in
theorem cm_people (l : Launch) (g : zz_G) {h0 h : zz_H} {m : Nat} {ad : Nat → Nat} {n : Nat} {σ : Nat → Nat → Int32} (hM : MR h0 h m ad n σ) : zz_C l g yX2_people cX2_people 1 (some .int) (zz_rm 2 41 0 0) [.ref m] h (zm h0 m ad (nI n) 0 n σ) := by
  refine zz_C.of (by decide) (Nat.le_of_ble_eq_true rfl) (fun pP eE sS mM aA bB tT cC X Q hQ => ?_)
  refine zj_aload_n X dX2_people_0 rfl ?_
  refine zj_aload_n X dX2_people_1 rfl ?_
  refine zj_get X in_X2 rfl 0 (by decide) q1141 (fun _ h => h) hM.o rfl (Or.inl (by decide)) dX2_people_2 ?_
  refine zj_callV (n := 1) (As := [_]) X (cm_tell l g hM _) hM.o rfl rfl ⟨by decide, by decide, by decide +kernel⟩ (lw_V q1248 q1250 qs25 q50 q1251) ⟨Nat.le_of_ble_eq_true rfl, Nat.le_of_ble_eq_true rfl⟩ rfl rfl (Nat.le_of_ble_eq_true rfl) ⟨Nat.le_of_ble_eq_true rfl, Nat.le_of_ble_eq_true rfl⟩ dX2_people_5 (fun v_5 h_5 p_5 => ?_)
  have h_6 := p_5.1
  subst h_6
  exact zj_iret X hQ (p_5) rfl (Nat.le_of_ble_eq_true rfl) (Nat.le_of_ble_eq_true rfl) dX2_people_8

set_option maxHeartbeats 4000000 in
theorem cm_works (l : Launch) (g : zz_G) {h0 h : zz_H} {m : Nat} {ad : Nat → Nat} {n : Nat} {σ : Nat → Nat → Int32} (hM : MR h0 h m ad n σ) : zz_C l g yX2_works cX2_works 1 (some .int) (zz_rm 2 42 0 0) [.ref m] h (zm h0 m ad (mWorks n σ) 0 n σ) := by
  refine zz_C.of (by decide) (Nat.le_of_ble_eq_true rfl) (fun pP eE sS mM aA bB tT cC X Q hQ => ?_)
  refine zj_aload_n X dX2_works_0 rfl ?_
  refine zj_aload_n X dX2_works_1 rfl ?_
  refine zj_callVp (n := 0) (As := []) X (cm_countWorks l g hM) hM.o rfl rfl ⟨by decide, by decide, by decide +kernel⟩ (lw_V q1222 q1224 qs23 q50 q1225) ⟨Nat.le_of_ble_eq_true rfl, Nat.le_of_ble_eq_true rfl⟩ rfl rfl (Nat.le_of_ble_eq_true rfl) ⟨Nat.le_of_ble_eq_true rfl, Nat.le_of_ble_eq_true rfl⟩ dX2_works_2 ?_
  refine zj_callV (n := 1) (As := [_]) X (cm_tell l g hM _) hM.o rfl rfl ⟨by decide, by decide, by decide +kernel⟩ (lw_V q1248 q1250 qs25 q50 q1251) ⟨Nat.le_of_ble_eq_true rfl, Nat.le_of_ble_eq_true rfl⟩ rfl rfl (Nat.le_of_ble_eq_true rfl) ⟨Nat.le_of_ble_eq_true rfl, Nat.le_of_ble_eq_true rfl⟩ dX2_works_5 (fun v_5 h_5 p_5 => ?_)
  have h_6 := p_5.1
  subst h_6
  exact zj_iret X hQ (p_5) rfl (Nat.le_of_ble_eq_true rfl) (Nat.le_of_ble_eq_true rfl) dX2_works_8

set_option maxHeartbeats 4000000 in
theorem cm_readersOf (l : Launch) (g : zz_G) {h0 h : zz_H} {m : Nat} {ad : Nat → Nat} {n : Nat} {σ : Nat → Nat → Int32} (hM : MR h0 h m ad n σ) (x : Int32) : zz_C l g yX2_readersOf cX2_readersOf 4 (some .int) (zz_rm 4 84 0 0) [.ref m, .int x] h (zs h0 m ad (spRdOf n σ x)) := by
  refine zz_C.of (by decide) (Nat.le_of_ble_eq_true rfl) (fun pP eE sS mM aA bB tT cC X Q hQ => ?_)
  have hn := hM.le
  refine zj_aload_n X dX2_readersOf_0 rfl ?_
  refine zj_iconst (v := 0) X dX2_readersOf_1 rfl ?_
  refine zj_put X in_X2 tyX2 tyX2_ok nmX2 rfl 14 (by decide) q1155 (fun _ h => h) rfl hM.o rfl rfl (Nat.le_of_ble_eq_true rfl) (Or.inl (by decide)) dX2_readersOf_2 ?_
  obtain ⟨σ1, hM, hE, h14⟩ := zm_14 hM 0
  generalize zz_up h m (eO 1 ((mFs n ad σ).set 14 (.int 0))) = h9 at hM ⊢
  refine zj_aload_n X dX2_readersOf_5 rfl ?_
  refine zj_iload_n X dX2_readersOf_6 rfl ?_
  refine zj_callVp (n := 1) (As := [_]) X (cm_isWork l g hM _) hM.o rfl rfl ⟨by decide, by decide, by decide +kernel⟩ (lw_V q1287 q1289 qs31 q50 q1290) ⟨Nat.le_of_ble_eq_true rfl, Nat.le_of_ble_eq_true rfl⟩ rfl rfl (Nat.le_of_ble_eq_true rfl) ⟨Nat.le_of_ble_eq_true rfl, Nat.le_of_ble_eq_true rfl⟩ dX2_readersOf_7 ?_
  refine zj_if_ne (tgt := 19) X dX2_readersOf_10 (by decide) (fun c_10 => ?_) (fun c_10 => ?_)
  · have e_10 := zb_n.mp c_10
    rw [isWB_c hE] at e_10
    obtain ⟨j, hj, rfl, wj⟩ := isWB_t (by omega) e_10
    refine zj_iconst (v := 0) X dX2_readersOf_19 rfl ?_
    refine zj_istore_n X dX2_readersOf_20 (by decide) ?_
    refine zj_iconst (v := 0) X dX2_readersOf_21 rfl ?_
    refine zj_istore_n X dX2_readersOf_22 (by decide) ?_
    have L_23 : ∀ k_23 : Nat, ∀ (i : Nat), i ≤ n → n < i + k_23 → zz_J pP l eE (zz_rm 4 84 0 0) sS mM aA bB tT cC g 4 Q h9 0 0 23 [(0, .ref m), (1, .int (nI j)), (2, .int (zor (fun p => if σ1 7 (16 * j + p) = 0 then 0 else bitA p) i)), (3, .int (nI i))] [] := by
      intro k_23
      induction k_23 with
      | zero =>
        intro i h1 h2
        omega
      | succ k_23 ih_23 =>
        intro i h1 h2
        refine zj_iload_n X dX2_readersOf_23 rfl ?_
        refine zj_aload_n X dX2_readersOf_24 rfl ?_
        refine zj_get X in_X2 rfl 0 (by decide) q1141 (fun _ h => h) hM.o rfl (Or.inl (by decide)) dX2_readersOf_25 ?_
        refine zj_icmp_ge (tgt := 60) X dX2_readersOf_28 (by decide) (fun c_28 => ?_) (fun c_28 => ?_)
        · have e_28 := zi_ge h1 (by omega) c_28
          refine zj_iload_n X dX2_readersOf_60 rfl ?_
          exact zj_iret X hQ (zs_of (by simp [spRdOf, e_10] <;> rfl) ⟨zi_c (by rw [e_28, cN_j (show j < 65536 by omega)]; rw [hE 7 (by decide) (by decide)]), σ1, hM, hE, h14⟩) rfl (Nat.le_of_ble_eq_true rfl) (Nat.le_of_ble_eq_true rfl) dX2_readersOf_61
        · have e_28 := zi_lt h1 (by omega) c_28
          refine zj_iload_n X dX2_readersOf_31 rfl ?_
          refine zj_aload_n X dX2_readersOf_32 rfl ?_
          refine zj_get X in_X2 rfl 7 (by decide) q1148 (fun _ h => h) hM.o rfl (Or.inl (by decide)) dX2_readersOf_33 ?_
          refine zj_iload_n X dX2_readersOf_36 rfl ?_
          refine zj_iload_n X dX2_readersOf_37 rfl ?_
          refine zj_callSp (n := 2) (As := [_, _]) X (cm_at l g _ _ _) ⟨by decide, by decide, by decide +kernel⟩ (lw_S q1264 q1265 q50 q1266) ⟨Nat.le_of_ble_eq_true rfl, Nat.le_of_ble_eq_true rfl⟩ rfl rfl (Nat.le_of_ble_eq_true rfl) ⟨Nat.le_of_ble_eq_true rfl, Nat.le_of_ble_eq_true rfl⟩ dX2_readersOf_38 ?_
          refine zj_zald X (hM.arr 7 rfl) (rfl) (by show _ < 256; omega) (by omega) dX2_readersOf_41 ?_
          refine zj_if_eq (tgt := 51) X dX2_readersOf_42 (by decide) (fun c_42 => ?_) (fun c_42 => ?_)
          · have e_42 := c_42
            refine zj_iconst (v := 0) X dX2_readersOf_51 rfl ?_
            refine zj_ior X dX2_readersOf_52 ?_
            refine zj_istore_n X dX2_readersOf_53 (by decide) ?_
            refine zj_iinc X dX2_readersOf_54 rfl (zi_1 i) (by decide) ?_
            refine zj_goto (tgt := 23) X dX2_readersOf_57 (by decide) ?_
            exact zj_lo (ih_23 (i + 1) (by omega) (by omega)) ⟨rfl, rfl, zi_c (by simp [zor, bitA, e_42]), rfl, trivial⟩
          · have e_42 := c_42
            refine zj_iconst (v := 1) X dX2_readersOf_45 rfl ?_
            refine zj_iload_n X dX2_readersOf_46 rfl ?_
            refine zj_ishl X dX2_readersOf_47 ?_
            refine zj_goto (tgt := 52) X dX2_readersOf_48 (by decide) ?_
            refine zj_ior X dX2_readersOf_52 ?_
            refine zj_istore_n X dX2_readersOf_53 (by decide) ?_
            refine zj_iinc X dX2_readersOf_54 rfl (zi_1 i) (by decide) ?_
            refine zj_goto (tgt := 23) X dX2_readersOf_57 (by decide) ?_
            exact zj_lo (ih_23 (i + 1) (by omega) (by omega)) ⟨rfl, rfl, zi_c (by simp [zor, bitA, e_42]), rfl, trivial⟩
    exact zj_lo (L_23 (n + 1) 0 (Nat.zero_le _) (by omega)) ⟨rfl, rfl, rfl, rfl, trivial⟩
  · have e_10 := zb_0.mp c_10
    rw [isWB_c hE] at e_10
    refine zj_aload_n X dX2_readersOf_13 rfl ?_
    refine zj_iconst (v := 1) X dX2_readersOf_14 rfl ?_
    refine zj_callV (n := 1) (As := [_]) X (cm_fail l g hM _) hM.o rfl rfl ⟨by decide, by decide, by decide +kernel⟩ (lw_V q1233 q1235 qs24 q50 q1236) ⟨Nat.le_of_ble_eq_true rfl, Nat.le_of_ble_eq_true rfl⟩ rfl rfl (Nat.le_of_ble_eq_true rfl) ⟨Nat.le_of_ble_eq_true rfl, Nat.le_of_ble_eq_true rfl⟩ dX2_readersOf_15 (fun v_15 h_15 p_15 => ?_)
    obtain ⟨e_15, σ2, hM2, hE2, h142⟩ := p_15
    subst e_15
    have hE2 := hE2.tr hE
    exact zj_iret X hQ (zs_of (by simp [spRdOf, e_10]) ⟨rfl, σ2, hM2, hE2, h142⟩) rfl (Nat.le_of_ble_eq_true rfl) (Nat.le_of_ble_eq_true rfl) dX2_readersOf_18

set_option maxHeartbeats 4000000 in
theorem cm_mayRead (l : Launch) (g : zz_G) {h0 h : zz_H} {m : Nat} {ad : Nat → Nat} {n : Nat} {σ : Nat → Nat → Int32} (hM : MR h0 h m ad n σ) (x : Int32) : zz_C l g yX2_mayRead cX2_mayRead 4 (some .int) (zz_rm 4 84 0 0) [.ref m, .int x] h (zs h0 m ad (spMay n σ x)) := by
  refine zz_C.of (by decide) (Nat.le_of_ble_eq_true rfl) (fun pP eE sS mM aA bB tT cC X Q hQ => ?_)
  have hn := hM.le
  refine zj_aload_n X dX2_mayRead_0 rfl ?_
  refine zj_iconst (v := 0) X dX2_mayRead_1 rfl ?_
  refine zj_put X in_X2 tyX2 tyX2_ok nmX2 rfl 14 (by decide) q1155 (fun _ h => h) rfl hM.o rfl rfl (Nat.le_of_ble_eq_true rfl) (Or.inl (by decide)) dX2_mayRead_2 ?_
  obtain ⟨σ1, hM, hE, h14⟩ := zm_14 hM 0
  generalize zz_up h m (eO 1 ((mFs n ad σ).set 14 (.int 0))) = h9 at hM ⊢
  refine zj_aload_n X dX2_mayRead_5 rfl ?_
  refine zj_iload_n X dX2_mayRead_6 rfl ?_
  refine zj_callVp (n := 1) (As := [_]) X (cm_isWork l g hM _) hM.o rfl rfl ⟨by decide, by decide, by decide +kernel⟩ (lw_V q1287 q1289 qs31 q50 q1290) ⟨Nat.le_of_ble_eq_true rfl, Nat.le_of_ble_eq_true rfl⟩ rfl rfl (Nat.le_of_ble_eq_true rfl) ⟨Nat.le_of_ble_eq_true rfl, Nat.le_of_ble_eq_true rfl⟩ dX2_mayRead_7 ?_
  refine zj_if_ne (tgt := 19) X dX2_mayRead_10 (by decide) (fun c_10 => ?_) (fun c_10 => ?_)
  · have e_10 := zb_n.mp c_10
    rw [isWB_c hE] at e_10
    obtain ⟨j, hj, rfl, wj⟩ := isWB_t (by omega) e_10
    refine zj_iconst (v := 0) X dX2_mayRead_19 rfl ?_
    refine zj_istore_n X dX2_mayRead_20 (by decide) ?_
    refine zj_iconst (v := 0) X dX2_mayRead_21 rfl ?_
    refine zj_istore_n X dX2_mayRead_22 (by decide) ?_
    have L_23 : ∀ k_23 : Nat, ∀ (i : Nat), i ≤ n → n < i + k_23 → zz_J pP l eE (zz_rm 4 84 0 0) sS mM aA bB tT cC g 4 Q h9 0 0 23 [(0, .ref m), (1, .int (nI j)), (2, .int (zor (fun p => if mMay σ1 p j = true then bitA p else 0) i)), (3, .int (nI i))] [] := by
      intro k_23
      induction k_23 with
      | zero =>
        intro i h1 h2
        omega
      | succ k_23 ih_23 =>
        intro i h1 h2
        refine zj_iload_n X dX2_mayRead_23 rfl ?_
        refine zj_aload_n X dX2_mayRead_24 rfl ?_
        refine zj_get X in_X2 rfl 0 (by decide) q1141 (fun _ h => h) hM.o rfl (Or.inl (by decide)) dX2_mayRead_25 ?_
        refine zj_icmp_ge (tgt := 56) X dX2_mayRead_28 (by decide) (fun c_28 => ?_) (fun c_28 => ?_)
        · have e_28 := zi_ge h1 (by omega) c_28
          refine zj_iload_n X dX2_mayRead_56 rfl ?_
          exact zj_iret X hQ (zs_of (by simp [spMay, e_10] <;> rfl) ⟨zi_c (by rw [e_28, cN_j (show j < 65536 by omega)]; simp only [mMay_c hE]), σ1, hM, hE, h14⟩) rfl (Nat.le_of_ble_eq_true rfl) (Nat.le_of_ble_eq_true rfl) dX2_mayRead_57
        · have e_28 := zi_lt h1 (by omega) c_28
          refine zj_iload_n X dX2_mayRead_31 rfl ?_
          refine zj_aload_n X dX2_mayRead_32 rfl ?_
          refine zj_iload_n X dX2_mayRead_33 rfl ?_
          refine zj_iload_n X dX2_mayRead_34 rfl ?_
          refine zj_callVp (n := 2) (As := [_, _]) X (cm_may l g hM i j e_28 hj) hM.o rfl rfl ⟨by decide, by decide, by decide +kernel⟩ (lw_V q1271 q1273 qs28 q50 q1274) ⟨Nat.le_of_ble_eq_true rfl, Nat.le_of_ble_eq_true rfl⟩ rfl rfl (Nat.le_of_ble_eq_true rfl) ⟨Nat.le_of_ble_eq_true rfl, Nat.le_of_ble_eq_true rfl⟩ dX2_mayRead_35 ?_
          refine zj_if_eq (tgt := 47) X dX2_mayRead_38 (by decide) (fun c_38 => ?_) (fun c_38 => ?_)
          · have e_38 := zb_0.mp c_38
            refine zj_iconst (v := 0) X dX2_mayRead_47 rfl ?_
            refine zj_ior X dX2_mayRead_48 ?_
            refine zj_istore_n X dX2_mayRead_49 (by decide) ?_
            refine zj_iinc X dX2_mayRead_50 rfl (zi_1 i) (by decide) ?_
            refine zj_goto (tgt := 23) X dX2_mayRead_53 (by decide) ?_
            exact zj_lo (ih_23 (i + 1) (by omega) (by omega)) ⟨rfl, rfl, zi_c (by simp [zor, bitA, e_38]), rfl, trivial⟩
          · have e_38 := zb_n.mp c_38
            refine zj_iconst (v := 1) X dX2_mayRead_41 rfl ?_
            refine zj_iload_n X dX2_mayRead_42 rfl ?_
            refine zj_ishl X dX2_mayRead_43 ?_
            refine zj_goto (tgt := 48) X dX2_mayRead_44 (by decide) ?_
            refine zj_ior X dX2_mayRead_48 ?_
            refine zj_istore_n X dX2_mayRead_49 (by decide) ?_
            refine zj_iinc X dX2_mayRead_50 rfl (zi_1 i) (by decide) ?_
            refine zj_goto (tgt := 23) X dX2_mayRead_53 (by decide) ?_
            exact zj_lo (ih_23 (i + 1) (by omega) (by omega)) ⟨rfl, rfl, zi_c (by simp [zor, bitA, e_38]), rfl, trivial⟩
    exact zj_lo (L_23 (n + 1) 0 (Nat.zero_le _) (by omega)) ⟨rfl, rfl, rfl, rfl, trivial⟩
  · have e_10 := zb_0.mp c_10
    rw [isWB_c hE] at e_10
    refine zj_aload_n X dX2_mayRead_13 rfl ?_
    refine zj_iconst (v := 1) X dX2_mayRead_14 rfl ?_
    refine zj_callV (n := 1) (As := [_]) X (cm_fail l g hM _) hM.o rfl rfl ⟨by decide, by decide, by decide +kernel⟩ (lw_V q1233 q1235 qs24 q50 q1236) ⟨Nat.le_of_ble_eq_true rfl, Nat.le_of_ble_eq_true rfl⟩ rfl rfl (Nat.le_of_ble_eq_true rfl) ⟨Nat.le_of_ble_eq_true rfl, Nat.le_of_ble_eq_true rfl⟩ dX2_mayRead_15 (fun v_15 h_15 p_15 => ?_)
    obtain ⟨e_15, σ2, hM2, hE2, h142⟩ := p_15
    subst e_15
    have hE2 := hE2.tr hE
    exact zj_iret X hQ (zs_of (by simp [spMay, e_10]) ⟨rfl, σ2, hM2, hE2, h142⟩) rfl (Nat.le_of_ble_eq_true rfl) (Nat.le_of_ble_eq_true rfl) dX2_mayRead_18

set_option maxHeartbeats 4000000 in
theorem cm_loadOf (l : Launch) (g : zz_G) {h0 h : zz_H} {m : Nat} {ad : Nat → Nat} {n : Nat} {σ : Nat → Nat → Int32} (hM : MR h0 h m ad n σ) (x : Int32) : zz_C l g yX2_loadOf cX2_loadOf 2 (some .int) (zz_rm 3 64 0 0) [.ref m, .int x] h (zs h0 m ad (spLoad n σ x)) := by
  refine zz_C.of (by decide) (Nat.le_of_ble_eq_true rfl) (fun pP eE sS mM aA bB tT cC X Q hQ => ?_)
  have hn := hM.le
  refine zj_aload_n X dX2_loadOf_0 rfl ?_
  refine zj_iconst (v := 0) X dX2_loadOf_1 rfl ?_
  refine zj_put X in_X2 tyX2 tyX2_ok nmX2 rfl 14 (by decide) q1155 (fun _ h => h) rfl hM.o rfl rfl (Nat.le_of_ble_eq_true rfl) (Or.inl (by decide)) dX2_loadOf_2 ?_
  obtain ⟨σ1, hM, hE, h14⟩ := zm_14 hM 0
  refine zj_aload_n X dX2_loadOf_5 rfl ?_
  refine zj_iload_n X dX2_loadOf_6 rfl ?_
  refine zj_callVp (n := 1) (As := [_]) X (cm_isPerson l g hM _) hM.o rfl rfl ⟨by decide, by decide, by decide +kernel⟩ (lw_V q1218 q1220 qs22 q50 q1221) ⟨Nat.le_of_ble_eq_true rfl, Nat.le_of_ble_eq_true rfl⟩ rfl rfl (Nat.le_of_ble_eq_true rfl) ⟨Nat.le_of_ble_eq_true rfl, Nat.le_of_ble_eq_true rfl⟩ dX2_loadOf_7 ?_
  refine zj_if_eq (tgt := 21) X dX2_loadOf_10 (by decide) (fun c_10 => ?_) (fun c_10 => ?_)
  · have e_10 := zb_0.mp c_10
    refine zj_aload_n X dX2_loadOf_21 rfl ?_
    refine zj_iconst (v := 1) X dX2_loadOf_22 rfl ?_
    refine zj_callV (n := 1) (As := [_]) X (cm_fail l g hM _) hM.o rfl rfl ⟨by decide, by decide, by decide +kernel⟩ (lw_V q1233 q1235 qs24 q50 q1236) ⟨Nat.le_of_ble_eq_true rfl, Nat.le_of_ble_eq_true rfl⟩ rfl rfl (Nat.le_of_ble_eq_true rfl) ⟨Nat.le_of_ble_eq_true rfl, Nat.le_of_ble_eq_true rfl⟩ dX2_loadOf_23 (fun v_23 h_23 p_23 => ?_)
    obtain ⟨e_23, σ2, hM2, hE2, h142⟩ := p_23
    subst e_23
    have hE2 := hE2.tr hE
    exact zj_iret X hQ (by first | exact zs_of (by simp [spLoad, e_10]) ⟨rfl, σ2, hM2, hE2, h142⟩ | exact zs_of (by simp [spLoad, e_10] <;> rfl) ⟨zi_c (by rw [cN_j (show j < 65536 by omega)]; rw [mLoad_c hE]), σ1, hM, hE, h14⟩) rfl (Nat.le_of_ble_eq_true rfl) (Nat.le_of_ble_eq_true rfl) dX2_loadOf_26
  · have e_10 := zb_n.mp c_10
    obtain ⟨j, hj, rfl⟩ := isPB_t (by omega) e_10
    refine zj_aload_n X dX2_loadOf_13 rfl ?_
    refine zj_iload_n X dX2_loadOf_14 rfl ?_
    refine zj_callVp (n := 1) (As := [_]) X (cm_load l g hM j hj) hM.o rfl rfl ⟨by decide, by decide, by decide +kernel⟩ (lw_V q1279 q1281 qs30 q50 q1282) ⟨Nat.le_of_ble_eq_true rfl, Nat.le_of_ble_eq_true rfl⟩ rfl rfl (Nat.le_of_ble_eq_true rfl) ⟨Nat.le_of_ble_eq_true rfl, Nat.le_of_ble_eq_true rfl⟩ dX2_loadOf_15 ?_
    refine zj_goto (tgt := 26) X dX2_loadOf_18 (by decide) ?_
    exact zj_iret X hQ (by first | exact zs_of (by simp [spLoad, e_10]) ⟨rfl, σ2, hM2, hE2, h142⟩ | exact zs_of (by simp [spLoad, e_10] <;> rfl) ⟨zi_c (by rw [cN_j (show j < 65536 by omega)]; rw [mLoad_c hE]), σ1, hM, hE, h14⟩) rfl (Nat.le_of_ble_eq_true rfl) (Nat.le_of_ble_eq_true rfl) dX2_loadOf_26

set_option maxHeartbeats 4000000 in
theorem cm_weightOf (l : Launch) (g : zz_G) {h0 h : zz_H} {m : Nat} {ad : Nat → Nat} {n : Nat} {σ : Nat → Nat → Int32} (hM : MR h0 h m ad n σ) (x : Int32) : zz_C l g yX2_weightOf cX2_weightOf 2 (some .int) (zz_rm 3 63 0 0) [.ref m, .int x] h (zs h0 m ad (spWt n σ x)) := by
  refine zz_C.of (by decide) (Nat.le_of_ble_eq_true rfl) (fun pP eE sS mM aA bB tT cC X Q hQ => ?_)
  have hn := hM.le
  refine zj_aload_n X dX2_weightOf_0 rfl ?_
  refine zj_iconst (v := 0) X dX2_weightOf_1 rfl ?_
  refine zj_put X in_X2 tyX2 tyX2_ok nmX2 rfl 14 (by decide) q1155 (fun _ h => h) rfl hM.o rfl rfl (Nat.le_of_ble_eq_true rfl) (Or.inl (by decide)) dX2_weightOf_2 ?_
  obtain ⟨σ1, hM, hE, h14⟩ := zm_14 hM 0
  refine zj_aload_n X dX2_weightOf_5 rfl ?_
  refine zj_iload_n X dX2_weightOf_6 rfl ?_
  refine zj_callVp (n := 1) (As := [_]) X (cm_isPerson l g hM _) hM.o rfl rfl ⟨by decide, by decide, by decide +kernel⟩ (lw_V q1218 q1220 qs22 q50 q1221) ⟨Nat.le_of_ble_eq_true rfl, Nat.le_of_ble_eq_true rfl⟩ rfl rfl (Nat.le_of_ble_eq_true rfl) ⟨Nat.le_of_ble_eq_true rfl, Nat.le_of_ble_eq_true rfl⟩ dX2_weightOf_7 ?_
  refine zj_if_eq (tgt := 22) X dX2_weightOf_10 (by decide) (fun c_10 => ?_) (fun c_10 => ?_)
  · have e_10 := zb_0.mp c_10
    refine zj_aload_n X dX2_weightOf_22 rfl ?_
    refine zj_iconst (v := 1) X dX2_weightOf_23 rfl ?_
    refine zj_callV (n := 1) (As := [_]) X (cm_fail l g hM _) hM.o rfl rfl ⟨by decide, by decide, by decide +kernel⟩ (lw_V q1233 q1235 qs24 q50 q1236) ⟨Nat.le_of_ble_eq_true rfl, Nat.le_of_ble_eq_true rfl⟩ rfl rfl (Nat.le_of_ble_eq_true rfl) ⟨Nat.le_of_ble_eq_true rfl, Nat.le_of_ble_eq_true rfl⟩ dX2_weightOf_24 (fun v_24 h_24 p_24 => ?_)
    obtain ⟨e_24, σ2, hM2, hE2, h142⟩ := p_24
    subst e_24
    have hE2 := hE2.tr hE
    exact zj_iret X hQ (by first | exact zs_of (by simp [spWt, e_10]) ⟨rfl, σ2, hM2, hE2, h142⟩ | exact zs_of (by simp [spWt, e_10] <;> rfl) ⟨zi_c (by rw [cN_j (show j < 65536 by omega)]; rw [hE 3 (by decide) (by decide)]), σ1, hM, hE, h14⟩) rfl (Nat.le_of_ble_eq_true rfl) (Nat.le_of_ble_eq_true rfl) dX2_weightOf_27
  · have e_10 := zb_n.mp c_10
    obtain ⟨j, hj, rfl⟩ := isPB_t (by omega) e_10
    refine zj_aload_n X dX2_weightOf_13 rfl ?_
    refine zj_get X in_X2 rfl 3 (by decide) q1144 (fun _ h => h) hM.o rfl (Or.inl (by decide)) dX2_weightOf_14 ?_
    refine zj_iload_n X dX2_weightOf_17 rfl ?_
    refine zj_iald X (hM.arr 3 rfl) (rfl) (by show _ < 16; omega) (by omega) dX2_weightOf_18 ?_
    refine zj_goto (tgt := 27) X dX2_weightOf_19 (by decide) ?_
    exact zj_iret X hQ (by first | exact zs_of (by simp [spWt, e_10]) ⟨rfl, σ2, hM2, hE2, h142⟩ | exact zs_of (by simp [spWt, e_10] <;> rfl) ⟨zi_c (by rw [cN_j (show j < 65536 by omega)]; rw [hE 3 (by decide) (by decide)]), σ1, hM, hE, h14⟩) rfl (Nat.le_of_ble_eq_true rfl) (Nat.le_of_ble_eq_true rfl) dX2_weightOf_27

set_option maxHeartbeats 4000000 in
theorem cm_reviews (l : Launch) (g : zz_G) {h0 h : zz_H} {m : Nat} {ad : Nat → Nat} {n : Nat} {σ : Nat → Nat → Int32} (hM : MR h0 h m ad n σ) (x : Int32) : zz_C l g yX2_reviews cX2_reviews 2 (some .int) (zz_rm 4 84 0 0) [.ref m, .int x] h (zs h0 m ad (spRevs n σ x)) := by
  refine zz_C.of (by decide) (Nat.le_of_ble_eq_true rfl) (fun pP eE sS mM aA bB tT cC X Q hQ => ?_)
  have hn := hM.le
  refine zj_aload_n X dX2_reviews_0 rfl ?_
  refine zj_iconst (v := 0) X dX2_reviews_1 rfl ?_
  refine zj_put X in_X2 tyX2 tyX2_ok nmX2 rfl 14 (by decide) q1155 (fun _ h => h) rfl hM.o rfl rfl (Nat.le_of_ble_eq_true rfl) (Or.inl (by decide)) dX2_reviews_2 ?_
  obtain ⟨σ1, hM, hE, h14⟩ := zm_14 hM 0
  refine zj_aload_n X dX2_reviews_5 rfl ?_
  refine zj_iload_n X dX2_reviews_6 rfl ?_
  refine zj_callVp (n := 1) (As := [_]) X (cm_isWork l g hM _) hM.o rfl rfl ⟨by decide, by decide, by decide +kernel⟩ (lw_V q1287 q1289 qs31 q50 q1290) ⟨Nat.le_of_ble_eq_true rfl, Nat.le_of_ble_eq_true rfl⟩ rfl rfl (Nat.le_of_ble_eq_true rfl) ⟨Nat.le_of_ble_eq_true rfl, Nat.le_of_ble_eq_true rfl⟩ dX2_reviews_7 ?_
  refine zj_if_eq (tgt := 21) X dX2_reviews_10 (by decide) (fun c_10 => ?_) (fun c_10 => ?_)
  · have e_10 := zb_0.mp c_10
    rw [isWB_c hE] at e_10
    refine zj_aload_n X dX2_reviews_21 rfl ?_
    refine zj_iconst (v := 1) X dX2_reviews_22 rfl ?_
    refine zj_callV (n := 1) (As := [_]) X (cm_fail l g hM _) hM.o rfl rfl ⟨by decide, by decide, by decide +kernel⟩ (lw_V q1233 q1235 qs24 q50 q1236) ⟨Nat.le_of_ble_eq_true rfl, Nat.le_of_ble_eq_true rfl⟩ rfl rfl (Nat.le_of_ble_eq_true rfl) ⟨Nat.le_of_ble_eq_true rfl, Nat.le_of_ble_eq_true rfl⟩ dX2_reviews_23 (fun v_23 h_23 p_23 => ?_)
    obtain ⟨e_23, σ2, hM2, hE2, h142⟩ := p_23
    subst e_23
    have hE2 := hE2.tr hE
    exact zj_iret X hQ (by first | exact zs_of (by simp [spRevs, e_10]) ⟨rfl, σ2, hM2, hE2, h142⟩ | exact zs_of (by simp [spRevs, e_10] <;> rfl) ⟨zi_c (by rw [cN_j (show j < 65536 by omega)]; rw [mReviews_c hE]), σ1, hM, hE, h14⟩) rfl (Nat.le_of_ble_eq_true rfl) (Nat.le_of_ble_eq_true rfl) dX2_reviews_26
  · have e_10 := zb_n.mp c_10
    rw [isWB_c hE] at e_10
    obtain ⟨j, hj, rfl, wj⟩ := isWB_t (by omega) e_10
    refine zj_aload_n X dX2_reviews_13 rfl ?_
    refine zj_iload_n X dX2_reviews_14 rfl ?_
    refine zj_callVp (n := 1) (As := [_]) X (cm_countReviews l g hM j hj) hM.o rfl rfl ⟨by decide, by decide, by decide +kernel⟩ (lw_V q1364 q1366 qs43 q50 q1367) ⟨Nat.le_of_ble_eq_true rfl, Nat.le_of_ble_eq_true rfl⟩ rfl rfl (Nat.le_of_ble_eq_true rfl) ⟨Nat.le_of_ble_eq_true rfl, Nat.le_of_ble_eq_true rfl⟩ dX2_reviews_15 ?_
    refine zj_goto (tgt := 26) X dX2_reviews_18 (by decide) ?_
    exact zj_iret X hQ (by first | exact zs_of (by simp [spRevs, e_10]) ⟨rfl, σ2, hM2, hE2, h142⟩ | exact zs_of (by simp [spRevs, e_10] <;> rfl) ⟨zi_c (by rw [cN_j (show j < 65536 by omega)]; rw [mReviews_c hE]), σ1, hM, hE, h14⟩) rfl (Nat.le_of_ble_eq_true rfl) (Nat.le_of_ble_eq_true rfl) dX2_reviews_26

set_option maxHeartbeats 4000000 in
theorem cm_gradeOf (l : Launch) (g : zz_G) {h0 h : zz_H} {m : Nat} {ad : Nat → Nat} {n : Nat} {σ : Nat → Nat → Int32} (hM : MR h0 h m ad n σ) (x : Int32) : zz_C l g yX2_gradeOf cX2_gradeOf 2 (some .int) (zz_rm 6 142 0 0) [.ref m, .int x] h (zs h0 m ad (spGrade n σ x)) := by
  refine zz_C.of (by decide) (Nat.le_of_ble_eq_true rfl) (fun pP eE sS mM aA bB tT cC X Q hQ => ?_)
  have hn := hM.le
  refine zj_aload_n X dX2_gradeOf_0 rfl ?_
  refine zj_iconst (v := 0) X dX2_gradeOf_1 rfl ?_
  refine zj_put X in_X2 tyX2 tyX2_ok nmX2 rfl 14 (by decide) q1155 (fun _ h => h) rfl hM.o rfl rfl (Nat.le_of_ble_eq_true rfl) (Or.inl (by decide)) dX2_gradeOf_2 ?_
  obtain ⟨σ1, hM, hE, h14⟩ := zm_14 hM 0
  refine zj_aload_n X dX2_gradeOf_5 rfl ?_
  refine zj_iload_n X dX2_gradeOf_6 rfl ?_
  refine zj_callVp (n := 1) (As := [_]) X (cm_isPerson l g hM _) hM.o rfl rfl ⟨by decide, by decide, by decide +kernel⟩ (lw_V q1218 q1220 qs22 q50 q1221) ⟨Nat.le_of_ble_eq_true rfl, Nat.le_of_ble_eq_true rfl⟩ rfl rfl (Nat.le_of_ble_eq_true rfl) ⟨Nat.le_of_ble_eq_true rfl, Nat.le_of_ble_eq_true rfl⟩ dX2_gradeOf_7 ?_
  refine zj_if_eq (tgt := 39) X dX2_gradeOf_10 (by decide) (fun c_10 => ?_) (fun c_10 => ?_)
  · have e_10 := zb_0.mp c_10
    refine zj_aload_n X dX2_gradeOf_39 rfl ?_
    refine zj_iconst (v := 1) X dX2_gradeOf_40 rfl ?_
    refine zj_callV (n := 1) (As := [_]) X (cm_fail l g hM _) hM.o rfl rfl ⟨by decide, by decide, by decide +kernel⟩ (lw_V q1233 q1235 qs24 q50 q1236) ⟨Nat.le_of_ble_eq_true rfl, Nat.le_of_ble_eq_true rfl⟩ rfl rfl (Nat.le_of_ble_eq_true rfl) ⟨Nat.le_of_ble_eq_true rfl, Nat.le_of_ble_eq_true rfl⟩ dX2_gradeOf_41 (fun v_41 h_41 p_41 => ?_)
    obtain ⟨e_41, σ2, hM2, hE2, h142⟩ := p_41
    subst e_41
    have hE2 := hE2.tr hE
    exact zj_iret X hQ (by first | exact zs_of (by simp [spGrade, e_10]) ⟨rfl, σ2, hM2, hE2, h142⟩ | exact zs_of (by simp [spGrade, e_10] <;> rfl) ⟨zi_c (by rw [cN_j (show j < 65536 by omega)]; rw [mMark_c hE, hE 3 (by decide) (by decide)]), σ1, hM, hE, h14⟩) rfl (Nat.le_of_ble_eq_true rfl) (Nat.le_of_ble_eq_true rfl) dX2_gradeOf_44
  · have e_10 := zb_n.mp c_10
    obtain ⟨j, hj, rfl⟩ := isPB_t (by omega) e_10
    refine zj_iconst (v := 4) X dX2_gradeOf_13 rfl ?_
    refine zj_iconst (v := 0) X dX2_gradeOf_14 rfl ?_
    refine zj_aload_n X dX2_gradeOf_15 rfl ?_
    refine zj_iload_n X dX2_gradeOf_16 rfl ?_
    refine zj_callVp (n := 1) (As := [_]) X (cm_mark l g hM j hj) hM.o rfl rfl ⟨by decide, by decide, by decide +kernel⟩ (lw_V q1340 q1342 qs37 q50 q1343) ⟨Nat.le_of_ble_eq_true rfl, Nat.le_of_ble_eq_true rfl⟩ rfl rfl (Nat.le_of_ble_eq_true rfl) ⟨Nat.le_of_ble_eq_true rfl, Nat.le_of_ble_eq_true rfl⟩ dX2_gradeOf_17 ?_
    refine zj_mmax X q1327 q314 q58 q315 ⟨Nat.le_of_ble_eq_true rfl, Nat.le_of_ble_eq_true rfl⟩ ⟨Nat.le_of_ble_eq_true rfl, Nat.le_of_ble_eq_true rfl⟩ dX2_gradeOf_20 ?_
    refine zj_imul X dX2_gradeOf_23 ?_
    refine zj_bipush (v := 10) X dX2_gradeOf_24 (by decide) ?_
    refine zj_aload_n X dX2_gradeOf_26 rfl ?_
    refine zj_get X in_X2 rfl 3 (by decide) q1144 (fun _ h => h) hM.o rfl (Or.inl (by decide)) dX2_gradeOf_27 ?_
    refine zj_iload_n X dX2_gradeOf_30 rfl ?_
    refine zj_iald X (hM.arr 3 rfl) (rfl) (by show _ < 16; omega) (by omega) dX2_gradeOf_31 ?_
    refine zj_imul X dX2_gradeOf_32 ?_
    refine zj_iadd X dX2_gradeOf_33 ?_
    refine zj_iconst (v := 5) X dX2_gradeOf_34 rfl ?_
    refine zj_idiv X dX2_gradeOf_35 (by decide) ?_
    refine zj_goto (tgt := 44) X dX2_gradeOf_36 (by decide) ?_
    exact zj_iret X hQ (by first | exact zs_of (by simp [spGrade, e_10]) ⟨rfl, σ2, hM2, hE2, h142⟩ | exact zs_of (by simp [spGrade, e_10] <;> rfl) ⟨zi_c (by rw [cN_j (show j < 65536 by omega)]; rw [mMark_c hE, hE 3 (by decide) (by decide)]), σ1, hM, hE, h14⟩) rfl (Nat.le_of_ble_eq_true rfl) (Nat.le_of_ble_eq_true rfl) dX2_gradeOf_44

