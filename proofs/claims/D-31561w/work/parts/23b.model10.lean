set_option maxRecDepth 100000
/-! THE REFERENCE: the means, the constructor -/
theorem nI_z {a : Nat} (h : a < 2 ^ 31) (e : nI a = 0) : a = 0 := (nI_eq h (by decide)).mp (e.trans nI_0.symm)
/-- marks are none, or 0 .. 100 -/
def mRng (σ : Nat → Nat → Int32) : Prop := ∀ j, j < 256 → σ 10 j = -1 ∨ ∃ k, k ≤ 100 ∧ σ 10 j = nI k
theorem mMedK_rng {n : Nat} {σ : Nat → Nat → Int32} (h : mRng σ) (hn : n ≤ 16) {w : Nat} (hw : w < n) (a b : Int32) (k : Nat) (hk : k ≤ n) : mMedK n σ w a b k = -1 ∨ ∃ k', k' ≤ 100 ∧ mMedK n σ w a b k = nI k' := by
  induction k with
  | zero => exact Or.inl rfl
  | succ k ih =>
    rw [mMedK]
    split
    · exact h _ (by omega)
    · exact ih (by omega)
theorem mMark_rng {n : Nat} {σ : Nat → Nat → Int32} (h : mRng σ) (hn : n ≤ 16) {w : Nat} (hw : w < n) : mMark n σ w = -1 ∨ ∃ k, k ≤ 100 ∧ mMark n σ w = nI k := mMedK_rng h hn hw _ _ n (Nat.le_refl n)
theorem mRng_c {σ σ' : Nat → Nat → Int32} (e : mEq σ σ') (h : mRng σ) : mRng σ' := fun j hj => by rw [← e 10 (by decide) (by decide)]; exact h j hj
/-- a mark as a number; whether there is one -/
def kN (x : Int32) : Nat := if x = -1 then 0 else cN x
def kB (x : Int32) : Nat := if x = -1 then 0 else 1
theorem kN_max {x : Int32} (h : x = -1 ∨ ∃ k, k ≤ 100 ∧ x = nI k) : zmax 0 x = nI (kN x) ∧ kN x ≤ 100 * kB x ∧ kB x ≤ 1 := by
  rcases h with rfl | ⟨k, hk, rfl⟩
  · exact ⟨by decide, by decide, by decide⟩
  · have e := zi_m1 (j := k) (by omega)
    refine ⟨?_, ?_, ?_⟩
    · unfold zmax kN
      rw [if_neg e, cN_j (by omega)]
      split
      · rfl
      · rename_i z
        have h0 : (0 : Int32) = nI 0 := by decide
        have h1 : nI k ≤ 0 := Int32.not_lt.mp z
        rw [h0] at h1 ⊢
        have := (nI_leI (by omega) (by omega)).mp h1
        rw [show k = 0 by omega]
    · rw [kN, kB, if_neg e, if_neg e, cN_j (by omega)]; omega
    · rw [kB, if_neg e]; exact Nat.le_refl _
theorem kN_b {x : Int32} : (if x = -1 then (0 : Int32) else 1) = nI (kB x) := by
  unfold kB
  split <;> rfl
def mSm (n : Nat) (σ : Nat → Nat → Int32) : Nat → Nat := nS (fun w => kN (mMark n σ w))
def mMy (n : Nat) (σ : Nat → Nat → Int32) : Nat → Nat := nS (fun w => kB (mMark n σ w))
theorem mSm_le {n : Nat} {σ : Nat → Nat → Int32} (h : mRng σ) (hn : n ≤ 16) (k : Nat) (hk : k ≤ n) : mSm n σ k ≤ 100 * mMy n σ k ∧ mMy n σ k ≤ k := by
  induction k with
  | zero => exact ⟨Nat.le_refl _, Nat.le_refl _⟩
  | succ k ih =>
    obtain ⟨h1, h2⟩ := ih (by omega)
    obtain ⟨-, h3, h4⟩ := kN_max (mMark_rng h hn (show k < n by omega))
    show mSm n σ k + kN (mMark n σ k) ≤ 100 * (mMy n σ k + kB (mMark n σ k)) ∧ mMy n σ k + kB (mMark n σ k) ≤ k + 1
    omega
/-- the mean mark -/
def mMean (n : Nat) (σ : Nat → Nat → Int32) : UInt64 := if mMy n σ n = 0 then FP.dconst0 else FP.ddiv (FP.i2d (nI (mSm n σ n))) (FP.i2d (nI (mMy n σ n)))
theorem mSm_c {n : Nat} {σ σ' : Nat → Nat → Int32} (h : mEq σ σ') (k : Nat) : mSm n σ k = mSm n σ' k ∧ mMy n σ k = mMy n σ' k := by
  unfold mSm mMy
  simp only [mMark_c h, and_self]
theorem mMean_c {n : Nat} {σ σ' : Nat → Nat → Int32} (h : mEq σ σ') : mMean n σ = mMean n σ' := by
  unfold mMean
  rw [(mSm_c h n).1, (mSm_c h n).2]
theorem mMean_n {n : Nat} {σ : Nat → Nat → Int32} (h : mRng σ) (hn : n ≤ 16) : Op.cmpValue (FP.dcmp (mMean n σ) (mMean n σ)) .l = 0 := by
  obtain ⟨h1, h2⟩ := mSm_le h hn n (Nat.le_refl n)
  unfold mMean
  split
  · exact fp_0.1
  · rename_i hz
    exact (fpD_ok hz (by omega) h1).2
/-- late reviews and all, of the first k cells -/
def mLt (σ : Nat → Nat → Int32) : Nat → Nat := nS (fun i => if ¬ σ 10 i = -1 ∧ σ 12 0 < σ 11 i then 1 else 0)
def mAl (σ : Nat → Nat → Int32) : Nat → Nat := nS (fun i => kB (σ 10 i))
theorem mLt_le (σ : Nat → Nat → Int32) (k : Nat) : mLt σ k ≤ mAl σ k ∧ mAl σ k ≤ k := by
  induction k with
  | zero => exact ⟨Nat.le_refl _, Nat.le_refl _⟩
  | succ k ih =>
    show mLt σ k + (if ¬ σ 10 k = -1 ∧ σ 12 0 < σ 11 k then 1 else 0) ≤ mAl σ k + kB (σ 10 k) ∧ mAl σ k + kB (σ 10 k) ≤ k + 1
    unfold kB
    by_cases h : σ 10 k = -1
    · rw [if_neg (fun z => z.1 h), if_pos h]; omega
    · rw [if_neg h]
      split <;> omega
def mShr (σ : Nat → Nat → Int32) : UInt32 := if mAl σ 256 = 0 then FP.fconst0 else FP.fdiv (FP.i2f (nI (mLt σ 256))) (FP.i2f (nI (mAl σ 256)))
theorem mShr_c {σ σ' : Nat → Nat → Int32} (h : mEq σ σ') : mShr σ = mShr σ' := by
  simp only [mShr, mAl, mLt, h 10 (by decide) (by decide), h 11 (by decide) (by decide), h 12 (by decide) (by decide)]
  rfl
theorem mLt_0 {σ : Nat → Nat → Int32} {i : Nat} (h : σ 10 i = -1 ∨ ¬ σ 12 0 < σ 11 i) : nI (mLt σ i) + 0 = nI (mLt σ (i + 1)) := by
  have e : mLt σ (i + 1) = mLt σ i + (if ¬ σ 10 i = -1 ∧ σ 12 0 < σ 11 i then 1 else 0) := rfl
  rw [e, if_neg (fun z => h.elim z.1 (fun q => q z.2))]
  exact Int32.add_zero _
theorem mLt_1 {σ : Nat → Nat → Int32} {i : Nat} (h : ¬ σ 10 i = -1) (h2 : σ 12 0 < σ 11 i) : nI (mLt σ i) + 1 = nI (mLt σ (i + 1)) := by
  have e : mLt σ (i + 1) = mLt σ i + (if ¬ σ 10 i = -1 ∧ σ 12 0 < σ 11 i then 1 else 0) := rfl
  rw [e, if_pos ⟨h, h2⟩]
  exact nI_1 _
theorem mAl_0 {σ : Nat → Nat → Int32} {i : Nat} (h : σ 10 i = -1) : nI (mAl σ i) + 0 = nI (mAl σ (i + 1)) := by
  have e : mAl σ (i + 1) = mAl σ i + kB (σ 10 i) := rfl
  rw [e, kB, if_pos h]
  exact Int32.add_zero _
theorem mAl_1 {σ : Nat → Nat → Int32} {i : Nat} (h : ¬ σ 10 i = -1) : nI (mAl σ i) + 1 = nI (mAl σ (i + 1)) := by
  have e : mAl σ (i + 1) = mAl σ i + kB (σ 10 i) := rfl
  rw [e, kB, if_neg h]
  exact nI_1 _
theorem mShr_n (σ : Nat → Nat → Int32) : vf_n64 (FP.f2d (mShr σ)) ∧ Op.cmpValue (FP.dcmp (FP.f2d (mShr σ)) (FP.f2d (mShr σ))) .l = 0 := by
  obtain ⟨h1, h2⟩ := mLt_le σ 256
  unfold mShr
  split
  · exact fp_0.2
  · rename_i hz
    exact (fpF_ok hz h2 h1).2

set_option maxHeartbeats 4000000 in
theorem cm_meanMark (l : Launch) (g : zz_G) {h0 h : zz_H} {m : Nat} {ad : Nat → Nat} {n : Nat} {σ : Nat → Nat → Int32} (hM : MR h0 h m ad n σ) (hg : mRng σ) : zz_C l g yX2_meanMark cX2_meanMark 4 (some .double) (zz_rm 6 142 0 0) [.ref m] h (fun v h' => v = some (.double (mMean n σ)) ∧ ∃ σ', MR h0 h' m ad n σ' ∧ mEq σ' σ ∧ σ' 14 0 = 0) := by
  refine zz_C.of (by decide) (Nat.le_of_ble_eq_true rfl) (fun pP eE sS mM aA bB tT cC X Q hQ => ?_)
  have hn := hM.le
  refine zj_aload_n X dX2_meanMark_0 rfl ?_
  refine zj_iconst (v := 0) X dX2_meanMark_1 rfl ?_
  refine zm_th X hM q1155 (fun _ h => h) dX2_meanMark_2 (fun h9 σ1 hM hE h14 => ?_)
  refine zj_iconst (v := 0) X dX2_meanMark_5 rfl ?_
  refine zj_istore_n X dX2_meanMark_6 (by decide) ?_
  refine zj_iconst (v := 0) X dX2_meanMark_7 rfl ?_
  refine zj_istore_n X dX2_meanMark_8 (by decide) ?_
  refine zj_iconst (v := 0) X dX2_meanMark_9 rfl ?_
  refine zj_istore_n X dX2_meanMark_10 (by decide) ?_
  have hg1 := mRng_c hE.sym hg
  have L_11 : ∀ k_11 : Nat, ∀ (i : Nat), i ≤ n → n < i + k_11 → zz_J pP l eE (zz_rm 6 142 0 0) sS mM aA bB tT cC g 4 Q h9 0 0 11 [(0, .ref m), (1, .int (nI (mSm n σ1 i))), (2, .int (nI (mMy n σ1 i))), (3, .int (nI i))] [] := by
    intro k_11
    induction k_11 with
    | zero =>
      intro i h1 h2
      omega
    | succ k_11 ih_11 =>
      intro i h1 h2
      refine zj_iload_n X dX2_meanMark_11 rfl ?_
      refine zj_aload_n X dX2_meanMark_12 rfl ?_
      refine zj_get X in_X2 rfl 0 (by decide) q1141 (fun _ h => h) hM.o rfl (Or.inl (by decide)) dX2_meanMark_13 ?_
      refine zj_icmp_ge (tgt := 54) X dX2_meanMark_16 (by decide) (fun c_16 => ?_) (fun c_16 => ?_)
      · have e_16 := zi_ge h1 (by omega) c_16
        obtain ⟨q1, q2⟩ := mSm_le hg1 hn n (Nat.le_refl n)
        rw [e_16]
        refine zj_iload_n X dX2_meanMark_54 rfl ?_
        refine zj_if_ne (tgt := 62) X dX2_meanMark_55 (by decide) (fun c_55 => ?_) (fun c_55 => ?_)
        · have e_55 : mMy n σ1 n ≠ 0 := fun z => c_55 (by rw [z]; rfl)
          refine zj_iload_n X dX2_meanMark_62 rfl ?_
          refine zj_i2d X dX2_meanMark_63 ?_
          refine zj_iload_n X dX2_meanMark_64 rfl ?_
          refine zj_i2d X dX2_meanMark_65 ?_
          refine zj_ddiv X dX2_meanMark_66 (fpD_ok e_55 (by omega) q1).1 ?_
          exact zj_dret X hQ (⟨by rw [← mMean_c hE, mMean, if_neg e_55], σ1, hM, hE, h14⟩) rfl (by decide) (by decide) dX2_meanMark_67
        · have e_55 : mMy n σ1 n = 0 := nI_z (by omega) c_55
          refine zj_dconst0 X dX2_meanMark_58 ?_
          refine zj_goto (tgt := 67) X dX2_meanMark_59 (by decide) ?_
          exact zj_dret X hQ (⟨by rw [← mMean_c hE, mMean, if_pos e_55], σ1, hM, hE, h14⟩) rfl (by decide) (by decide) dX2_meanMark_67
      · have e_16 := zi_lt h1 (by omega) c_16
        refine zj_iload_n X dX2_meanMark_19 rfl ?_
        refine zj_iconst (v := 0) X dX2_meanMark_20 rfl ?_
        refine zj_aload_n X dX2_meanMark_21 rfl ?_
        refine zj_iload_n X dX2_meanMark_22 rfl ?_
        refine zj_callVp (n := 1) (As := [_]) X (cm_mark l g hM i e_16) hM.o rfl rfl ⟨by decide, by decide, by decide +kernel⟩ (lw_V q1340 q1342 qs37 q50 q1343) ⟨Nat.le_of_ble_eq_true rfl, Nat.le_of_ble_eq_true rfl⟩ rfl rfl (Nat.le_of_ble_eq_true rfl) ⟨Nat.le_of_ble_eq_true rfl, Nat.le_of_ble_eq_true rfl⟩ dX2_meanMark_23 ?_
        refine zj_mmax X q1327 q314 q58 q315 ⟨Nat.le_of_ble_eq_true rfl, Nat.le_of_ble_eq_true rfl⟩ ⟨Nat.le_of_ble_eq_true rfl, Nat.le_of_ble_eq_true rfl⟩ dX2_meanMark_26 ?_
        refine zj_iadd X dX2_meanMark_29 ?_
        refine zj_istore_n X dX2_meanMark_30 (by decide) ?_
        refine zj_iload_n X dX2_meanMark_31 rfl ?_
        refine zj_aload_n X dX2_meanMark_32 rfl ?_
        refine zj_iload_n X dX2_meanMark_33 rfl ?_
        refine zj_callVp (n := 1) (As := [_]) X (cm_mark l g hM i e_16) hM.o rfl rfl ⟨by decide, by decide, by decide +kernel⟩ (lw_V q1340 q1342 qs37 q50 q1343) ⟨Nat.le_of_ble_eq_true rfl, Nat.le_of_ble_eq_true rfl⟩ rfl rfl (Nat.le_of_ble_eq_true rfl) ⟨Nat.le_of_ble_eq_true rfl, Nat.le_of_ble_eq_true rfl⟩ dX2_meanMark_34 ?_
        refine zj_iconst (v := (-1)) X dX2_meanMark_37 rfl ?_
        refine zj_icmp_ne (tgt := 45) X dX2_meanMark_38 (by decide) (fun c_38 => ?_) (fun c_38 => ?_)
        · refine zj_iconst (v := 1) X dX2_meanMark_45 rfl ?_
          refine zj_iadd X dX2_meanMark_46 ?_
          refine zj_istore_n X dX2_meanMark_47 (by decide) ?_
          refine zj_iinc X dX2_meanMark_48 rfl (zi_1 i) (by decide) ?_
          refine zj_goto (tgt := 11) X dX2_meanMark_51 (by decide) ?_
          exact zj_lo (ih_11 (i + 1) (by omega) (by omega)) ⟨rfl, zi_c (by rw [(kN_max (mMark_rng hg1 hn e_16)).1, nI_add]; rfl), zi_c (by have e := kN_b (x := mMark n σ1 i); rw [if_neg c_38] at e; exact (congrArg (fun z => nI (mMy n σ1 i) + z) e).trans (nI_add _ _)), rfl, trivial⟩
        · refine zj_iconst (v := 0) X dX2_meanMark_41 rfl ?_
          refine zj_goto (tgt := 46) X dX2_meanMark_42 (by decide) ?_
          refine zj_iadd X dX2_meanMark_46 ?_
          refine zj_istore_n X dX2_meanMark_47 (by decide) ?_
          refine zj_iinc X dX2_meanMark_48 rfl (zi_1 i) (by decide) ?_
          refine zj_goto (tgt := 11) X dX2_meanMark_51 (by decide) ?_
          exact zj_lo (ih_11 (i + 1) (by omega) (by omega)) ⟨rfl, zi_c (by rw [(kN_max (mMark_rng hg1 hn e_16)).1, nI_add]; rfl), zi_c (by have e := kN_b (x := mMark n σ1 i); rw [if_pos c_38] at e; exact (congrArg (fun z => nI (mMy n σ1 i) + z) e).trans (nI_add _ _)), rfl, trivial⟩
  exact zj_lo (L_11 (n + 1) 0 (Nat.zero_le _) (by omega)) ⟨rfl, rfl, rfl, rfl, trivial⟩

set_option maxHeartbeats 4000000 in
theorem cm_lateShare (l : Launch) (g : zz_G) {h0 h : zz_H} {m : Nat} {ad : Nat → Nat} {n : Nat} {σ : Nat → Nat → Int32} (hM : MR h0 h m ad n σ) : zz_C l g yX2_lateShare cX2_lateShare 4 (some .float) (zz_rm 1 20 0 0) [.ref m] h (fun v h' => v = some (.float (mShr σ)) ∧ ∃ σ', MR h0 h' m ad n σ' ∧ mEq σ' σ ∧ σ' 14 0 = 0) := by
  refine zz_C.of (by decide) (Nat.le_of_ble_eq_true rfl) (fun pP eE sS mM aA bB tT cC X Q hQ => ?_)
  have hn := hM.le
  refine zj_aload_n X dX2_lateShare_0 rfl ?_
  refine zj_iconst (v := 0) X dX2_lateShare_1 rfl ?_
  refine zm_th X hM q1155 (fun _ h => h) dX2_lateShare_2 (fun h9 σ1 hM hE h14 => ?_)
  refine zj_iconst (v := 0) X dX2_lateShare_5 rfl ?_
  refine zj_istore_n X dX2_lateShare_6 (by decide) ?_
  refine zj_iconst (v := 0) X dX2_lateShare_7 rfl ?_
  refine zj_istore_n X dX2_lateShare_8 (by decide) ?_
  refine zj_iconst (v := 0) X dX2_lateShare_9 rfl ?_
  refine zj_istore_n X dX2_lateShare_10 (by decide) ?_
  have L_11 : ∀ k_11 : Nat, ∀ (i : Nat), i ≤ 256 → 256 < i + k_11 → zz_J pP l eE (zz_rm 1 20 0 0) sS mM aA bB tT cC g 4 Q h9 0 0 11 [(0, .ref m), (1, .int (nI (mLt σ1 i))), (2, .int (nI (mAl σ1 i))), (3, .int (nI i))] [] := by
    intro k_11
    induction k_11 with
    | zero =>
      intro i h1 h2
      omega
    | succ k_11 ih_11 =>
      intro i h1 h2
      refine zj_iload_n X dX2_lateShare_11 rfl ?_
      refine zj_sipush (v := 256) X dX2_lateShare_12 (by decide) ?_
      refine zj_icmp_ge (tgt := 73) X dX2_lateShare_15 (by decide) (fun c_15 => ?_) (fun c_15 => ?_)
      · have e_15 : i = 256 := zi_ge (n := 256) h1 (by omega) c_15
        obtain ⟨q1, q2⟩ := mLt_le σ1 256
        rw [e_15]
        refine zj_iload_n X dX2_lateShare_73 rfl ?_
        refine zj_if_ne (tgt := 81) X dX2_lateShare_74 (by decide) (fun c_74 => ?_) (fun c_74 => ?_)
        · have e_74 : mAl σ1 256 ≠ 0 := fun z => c_74 (by rw [z]; rfl)
          refine zj_iload_n X dX2_lateShare_81 rfl ?_
          refine zj_i2f X dX2_lateShare_82 ?_
          refine zj_iload_n X dX2_lateShare_83 rfl ?_
          refine zj_i2f X dX2_lateShare_84 ?_
          refine zj_fdiv X dX2_lateShare_85 (fpF_ok e_74 q2 q1).1 ?_
          exact zj_fret X hQ (⟨by rw [← mShr_c hE, mShr, if_neg e_74], σ1, hM, hE, h14⟩) rfl (by decide) (by decide) dX2_lateShare_86
        · have e_74 : mAl σ1 256 = 0 := nI_z (by omega) c_74
          refine zj_fconst0 X dX2_lateShare_77 ?_
          refine zj_goto (tgt := 86) X dX2_lateShare_78 (by decide) ?_
          exact zj_fret X hQ (⟨by rw [← mShr_c hE, mShr, if_pos e_74], σ1, hM, hE, h14⟩) rfl (by decide) (by decide) dX2_lateShare_86
      · have e_15 : i < 256 := zi_lt (n := 256) h1 (by omega) c_15
        refine zj_iload_n X dX2_lateShare_18 rfl ?_
        refine zj_aload_n X dX2_lateShare_19 rfl ?_
        refine zj_get X in_X2 rfl 10 (by decide) q1151 (fun _ h => h) hM.o rfl (Or.inl (by decide)) dX2_lateShare_20 ?_
        refine zj_iload_n X dX2_lateShare_23 rfl ?_
        refine zj_iald X (hM.arr 10 rfl) (rfl) (by omega) (by omega) dX2_lateShare_24 ?_
        refine zj_iconst (v := (-1)) X dX2_lateShare_25 rfl ?_
        refine zj_icmp_eq (tgt := 46) X dX2_lateShare_26 (by decide) (fun c_26 => ?_) (fun c_26 => ?_)
        · refine zj_iconst (v := 0) X dX2_lateShare_46 rfl ?_
          refine zj_iadd X dX2_lateShare_47 ?_
          refine zj_istore_n X dX2_lateShare_48 (by decide) ?_
          refine zj_iload_n X dX2_lateShare_49 rfl ?_
          refine zj_aload_n X dX2_lateShare_50 rfl ?_
          refine zj_get X in_X2 rfl 10 (by decide) q1151 (fun _ h => h) hM.o rfl (Or.inl (by decide)) dX2_lateShare_51 ?_
          refine zj_iload_n X dX2_lateShare_54 rfl ?_
          refine zj_iald X (hM.arr 10 rfl) (rfl) (by omega) (by omega) dX2_lateShare_55 ?_
          refine zj_iconst (v := (-1)) X dX2_lateShare_56 rfl ?_
          refine zj_icmp_ne (tgt := 64) X dX2_lateShare_57 (by decide) (fun c_57 => ?_) (fun c_57 => ?_)
          · refine zj_iconst (v := 1) X dX2_lateShare_64 rfl ?_
            refine zj_iadd X dX2_lateShare_65 ?_
            refine zj_istore_n X dX2_lateShare_66 (by decide) ?_
            refine zj_iinc X dX2_lateShare_67 rfl (zi_1 i) (by decide) ?_
            refine zj_goto (tgt := 11) X dX2_lateShare_70 (by decide) ?_
            exact absurd c_26 c_57
          · refine zj_iconst (v := 0) X dX2_lateShare_60 rfl ?_
            refine zj_goto (tgt := 65) X dX2_lateShare_61 (by decide) ?_
            refine zj_iadd X dX2_lateShare_65 ?_
            refine zj_istore_n X dX2_lateShare_66 (by decide) ?_
            refine zj_iinc X dX2_lateShare_67 rfl (zi_1 i) (by decide) ?_
            refine zj_goto (tgt := 11) X dX2_lateShare_70 (by decide) ?_
            exact zj_lo (ih_11 (i + 1) (by omega) (by omega)) ⟨rfl, zi_c (mLt_0 (Or.inl c_26)), zi_c (mAl_0 c_57), rfl, trivial⟩
        · refine zj_aload_n X dX2_lateShare_29 rfl ?_
          refine zj_get X in_X2 rfl 11 (by decide) q1152 (fun _ h => h) hM.o rfl (Or.inl (by decide)) dX2_lateShare_30 ?_
          refine zj_iload_n X dX2_lateShare_33 rfl ?_
          refine zj_iald X (hM.arr 11 rfl) (rfl) (by omega) (by omega) dX2_lateShare_34 ?_
          refine zj_aload_n X dX2_lateShare_35 rfl ?_
          refine zj_get X in_X2 rfl 12 (by decide) q1153 (fun _ h => h) hM.o rfl (Or.inl (by decide)) dX2_lateShare_36 ?_
          refine zj_icmp_le (tgt := 46) X dX2_lateShare_39 (by decide) (fun c_39 => ?_) (fun c_39 => ?_)
          · refine zj_iconst (v := 0) X dX2_lateShare_46 rfl ?_
            refine zj_iadd X dX2_lateShare_47 ?_
            refine zj_istore_n X dX2_lateShare_48 (by decide) ?_
            refine zj_iload_n X dX2_lateShare_49 rfl ?_
            refine zj_aload_n X dX2_lateShare_50 rfl ?_
            refine zj_get X in_X2 rfl 10 (by decide) q1151 (fun _ h => h) hM.o rfl (Or.inl (by decide)) dX2_lateShare_51 ?_
            refine zj_iload_n X dX2_lateShare_54 rfl ?_
            refine zj_iald X (hM.arr 10 rfl) (rfl) (by omega) (by omega) dX2_lateShare_55 ?_
            refine zj_iconst (v := (-1)) X dX2_lateShare_56 rfl ?_
            refine zj_icmp_ne (tgt := 64) X dX2_lateShare_57 (by decide) (fun c_57 => ?_) (fun c_57 => ?_)
            · refine zj_iconst (v := 1) X dX2_lateShare_64 rfl ?_
              refine zj_iadd X dX2_lateShare_65 ?_
              refine zj_istore_n X dX2_lateShare_66 (by decide) ?_
              refine zj_iinc X dX2_lateShare_67 rfl (zi_1 i) (by decide) ?_
              refine zj_goto (tgt := 11) X dX2_lateShare_70 (by decide) ?_
              exact zj_lo (ih_11 (i + 1) (by omega) (by omega)) ⟨rfl, zi_c (mLt_0 (Or.inr (Int32.not_lt.mpr c_39))), zi_c (mAl_1 c_57), rfl, trivial⟩
            · refine zj_iconst (v := 0) X dX2_lateShare_60 rfl ?_
              refine zj_goto (tgt := 65) X dX2_lateShare_61 (by decide) ?_
              refine zj_iadd X dX2_lateShare_65 ?_
              refine zj_istore_n X dX2_lateShare_66 (by decide) ?_
              refine zj_iinc X dX2_lateShare_67 rfl (zi_1 i) (by decide) ?_
              refine zj_goto (tgt := 11) X dX2_lateShare_70 (by decide) ?_
              exact absurd c_57 c_26
          · refine zj_iconst (v := 1) X dX2_lateShare_42 rfl ?_
            refine zj_goto (tgt := 47) X dX2_lateShare_43 (by decide) ?_
            refine zj_iadd X dX2_lateShare_47 ?_
            refine zj_istore_n X dX2_lateShare_48 (by decide) ?_
            refine zj_iload_n X dX2_lateShare_49 rfl ?_
            refine zj_aload_n X dX2_lateShare_50 rfl ?_
            refine zj_get X in_X2 rfl 10 (by decide) q1151 (fun _ h => h) hM.o rfl (Or.inl (by decide)) dX2_lateShare_51 ?_
            refine zj_iload_n X dX2_lateShare_54 rfl ?_
            refine zj_iald X (hM.arr 10 rfl) (rfl) (by omega) (by omega) dX2_lateShare_55 ?_
            refine zj_iconst (v := (-1)) X dX2_lateShare_56 rfl ?_
            refine zj_icmp_ne (tgt := 64) X dX2_lateShare_57 (by decide) (fun c_57 => ?_) (fun c_57 => ?_)
            · refine zj_iconst (v := 1) X dX2_lateShare_64 rfl ?_
              refine zj_iadd X dX2_lateShare_65 ?_
              refine zj_istore_n X dX2_lateShare_66 (by decide) ?_
              refine zj_iinc X dX2_lateShare_67 rfl (zi_1 i) (by decide) ?_
              refine zj_goto (tgt := 11) X dX2_lateShare_70 (by decide) ?_
              exact zj_lo (ih_11 (i + 1) (by omega) (by omega)) ⟨rfl, zi_c (mLt_1 c_26 (Int32.not_le.mp c_39)), zi_c (mAl_1 c_57), rfl, trivial⟩
            · refine zj_iconst (v := 0) X dX2_lateShare_60 rfl ?_
              refine zj_goto (tgt := 65) X dX2_lateShare_61 (by decide) ?_
              refine zj_iadd X dX2_lateShare_65 ?_
              refine zj_istore_n X dX2_lateShare_66 (by decide) ?_
              refine zj_iinc X dX2_lateShare_67 rfl (zi_1 i) (by decide) ?_
              refine zj_goto (tgt := 11) X dX2_lateShare_70 (by decide) ?_
              exact absurd c_57 c_26
  exact zj_lo (L_11 257 0 (Nat.zero_le _) (by omega)) ⟨rfl, rfl, rfl, rfl, trivial⟩

/-- the constructor under way: the arrays made so far -/
def NP (h0 h : zz_H) (m : Nat) (L : List (Nat × Nat)) (fs : List Value) : Prop :=
  h m = some (eO 1 fs) ∧ (∀ p ∈ L, h p.2 = some (mE p.1 (fun _ => 0)) ∧ h0 p.2 = none ∧ p.2 ≠ m) ∧ (∀ p ∈ L, ∀ q ∈ L, p.2 = q.2 → p.1 = q.1) ∧ ∀ a, a ≠ m → (∀ p ∈ L, a ≠ p.2) → h a = h0 a
theorem NP.new {h0 h : zz_H} {m : Nat} {L : List (Nat × Nat)} {fs : List Value} (hP : NP h0 h m L fs) {q : Nat} (hq : h q = none) {k : Nat} {e : zz_E} (he : mE k (fun _ => 0) = e) : NP h0 (zz_up h q e) m ((k, q) :: L) fs := by
  subst he
  obtain ⟨h1, h2, h3, h4⟩ := hP
  have hqm : q ≠ m := fun z => by rw [z, h1] at hq; cases hq
  have hqL : ∀ p ∈ L, p.2 ≠ q := fun p hp z => by have := (h2 p hp).1; rw [z, hq] at this; cases this
  refine ⟨by rw [zz_up_n (Ne.symm hqm)]; exact h1, fun p hp => ?_, fun p hp p' hp' e => ?_, fun a ha hb => ?_⟩
  · rcases List.mem_cons.mp hp with rfl | hp
    · exact ⟨zz_up_s, by rw [← h4 q hqm (fun p hp => Ne.symm (hqL p hp))]; exact hq, hqm⟩
    · obtain ⟨g1, g2, g3⟩ := h2 p hp
      exact ⟨by rw [zz_up_n (hqL p hp)]; exact g1, g2, g3⟩
  · rcases List.mem_cons.mp hp with rfl | hp <;> rcases List.mem_cons.mp hp' with rfl | hp'
    · rfl
    · exact absurd e.symm (hqL _ hp')
    · exact absurd e (hqL _ hp)
    · exact h3 p hp p' hp' e
  · rw [zz_up_n (hb (k, q) (List.mem_cons_self ..))]
    exact h4 a ha (fun p hp => hb p (List.mem_cons_of_mem _ hp))
theorem NP.put {h0 h : zz_H} {m : Nat} {L : List (Nat × Nat)} {fs : List Value} (hP : NP h0 h m L fs) (fs' : List Value) : NP h0 (zz_up h m (eO 1 fs')) m L fs' := by
  obtain ⟨h1, h2, h3, h4⟩ := hP
  refine ⟨zz_up_s, fun p hp => ?_, h3, fun a ha hb => ?_⟩
  · obtain ⟨g1, g2, g3⟩ := h2 p hp
    exact ⟨by rw [zz_up_n g3]; exact g1, g2, g3⟩
  · rw [zz_up_n ha]; exact h4 a ha hb
theorem mA_or {k : Nat} (h : mA k = true) : k = 1 ∨ k = 2 ∨ k = 3 ∨ k = 4 ∨ k = 5 ∨ k = 6 ∨ k = 7 ∨ k = 8 ∨ k = 9 ∨ k = 10 ∨ k = 11 ∨ k = 15 ∨ k = 16 ∨ k = 17 ∨ k = 18 ∨ k = 19 := by
  unfold mA at h
  split at h
  all_goals first | (cases h; done) | omega
/-- the cells at first -/
def sI : Nat → Nat → Int32 := zk (zk (fun _ _ => 0) 12 (fun _ => 50)) 13 (fun _ => 20)
def sI1 : Nat → Nat → Int32 := zk sI 10 (mUp 256 (fun _ => -1) (sI 10))
theorem NP.MR {h0 h : zz_H} {m : Nat} {L : List (Nat × Nat)} {ad : Nat → Nat} (hP : NP h0 h m L (mFs 0 ad sI)) (hL : ∀ k, mA k = true → (k, ad k) ∈ L) (hL2 : ∀ p ∈ L, p = (p.1, ad p.1) ∧ mA p.1 = true) : MR h0 h m ad 0 sI ∧ ∀ k, mA k = true → h0 (ad k) = none := by
  obtain ⟨h1, h2, h3, h4⟩ := hP
  refine ⟨⟨Nat.zero_le _, h1, fun k hk => ?_, fun j k hj hk e => h3 _ (hL j hj) _ (hL k hk) e, fun k hk => (h2 _ (hL k hk)).2.2, fun a ha hb => h4 a ha (fun p hp => ?_)⟩, fun k hk => (h2 _ (hL k hk)).2.1⟩
  · rw [(h2 _ (hL k hk)).1]
    have : sI k = fun _ => 0 := by
      unfold sI
      rw [zk_n (fun z => by subst z; cases hk), zk_n (fun z => by subst z; cases hk)]
    rw [this]
  · obtain ⟨e1, e2⟩ := hL2 p hp
    rw [e1]
    exact hb p.1 e2
section ZN
variable {p : Program} {l : Launch} {e : Env} {R : Room} {s : State} {m : MethodId} {args : Array Value} {below : List Frame} {meth : Method} {c : Code} {g : zz_G} {nL : Nat} {Q : State → Prop} {h : zz_H} {mc ms pc : Nat} {lo : List (Nat × Value)} {st : List Value}
theorem ni_abs {P : zz_H → Prop} (hp : P h) (kk : ∀ h', P h' → zz_J p l e R s m args below meth c g nL Q h' mc ms pc lo st) : zz_J p l e R s m args below meth c g nL Q h mc ms pc lo st := kk h hp
end ZN
def mZ0 : List Value := [.int 0, .null, .null, .null, .null, .null, .null, .null, .null, .null, .null, .null, .int 0, .int 0, .int 0, .null, .null, .null, .null, .null]

set_option maxHeartbeats 4000000 in
theorem cm_init (l : Launch) (g : zz_G) {h : zz_H} {m : Nat} (hm : h m = some (eO 1 mZ0)) : zz_C l g yX2_init cX2_init 2 none (zz_rm (1) (20) (16) (1696)) [.ref m] h (fun v h' => v = none ∧ ∃ ad σ, MR h h' m ad 0 σ ∧ mEq σ sI1 ∧ ∀ k, mA k = true → h (ad k) = none) := by
  refine zz_C.of (by decide) (Nat.le_of_ble_eq_true rfl) (fun pP eE sS mM aA bB tT cC X Q hQ => ?_)
  have hP : NP h h m [] mZ0 := ⟨hm, fun p hp => absurd hp List.not_mem_nil, fun p hp => absurd hp List.not_mem_nil, fun a _ _ => rfl⟩
  refine zj_aload_n X dX2_init_0 rfl ?_
  refine zj_objInit X q1140 q86 q87 (by decide) ⟨by decide, by decide⟩ dX2_init_1 ?_
  refine zj_aload_n X dX2_init_4 rfl ?_
  refine zj_bipush (v := 16) X dX2_init_5 (by decide) ?_
  refine zj_newI X q320 rfl (by decide) (Nat.le_of_ble_eq_true rfl) (Nat.le_of_ble_eq_true rfl) dX2_init_7 (fun q_7 n_7 => ?_)
  refine ni_abs (P := fun z => NP h z m _ _) (hP.new n_7 (k := 1) rfl) (fun h_7 hP => ?_)
  refine zj_putF X in_X2 tyX2 tyX2_ok nmX2 rfl 1 (by decide) q1142 (fun _ h => h) rfl rfl rfl hP.1 rfl rfl (Nat.le_of_ble_eq_true rfl) (Or.inl (by decide)) dX2_init_9 ?_
  refine ni_abs (P := fun z => NP h z m _ _) (hP.put [.int 0, .ref q_7, .null, .null, .null, .null, .null, .null, .null, .null, .null, .null, .int 0, .int 0, .int 0, .null, .null, .null, .null, .null]) (fun h_9 hP => ?_)
  refine zj_aload_n X dX2_init_12 rfl ?_
  refine zj_bipush (v := 16) X dX2_init_13 (by decide) ?_
  refine zj_newZ X q1202 rfl (by decide) (Nat.le_of_ble_eq_true rfl) (Nat.le_of_ble_eq_true rfl) dX2_init_15 (fun q_15 n_15 => ?_)
  refine ni_abs (P := fun z => NP h z m _ _) (hP.new n_15 (k := 2) rfl) (fun h_15 hP => ?_)
  refine zj_putF X in_X2 tyX2 tyX2_ok nmX2 rfl 2 (by decide) q1143 (fun _ h => h) rfl rfl rfl hP.1 rfl rfl (Nat.le_of_ble_eq_true rfl) (Or.inl (by decide)) dX2_init_17 ?_
  refine ni_abs (P := fun z => NP h z m _ _) (hP.put [.int 0, .ref q_7, .ref q_15, .null, .null, .null, .null, .null, .null, .null, .null, .null, .int 0, .int 0, .int 0, .null, .null, .null, .null, .null]) (fun h_17 hP => ?_)
  refine zj_aload_n X dX2_init_20 rfl ?_
  refine zj_bipush (v := 16) X dX2_init_21 (by decide) ?_
  refine zj_newI X q320 rfl (by decide) (Nat.le_of_ble_eq_true rfl) (Nat.le_of_ble_eq_true rfl) dX2_init_23 (fun q_23 n_23 => ?_)
  refine ni_abs (P := fun z => NP h z m _ _) (hP.new n_23 (k := 3) rfl) (fun h_23 hP => ?_)
  refine zj_putF X in_X2 tyX2 tyX2_ok nmX2 rfl 3 (by decide) q1144 (fun _ h => h) rfl rfl rfl hP.1 rfl rfl (Nat.le_of_ble_eq_true rfl) (Or.inl (by decide)) dX2_init_25 ?_
  refine ni_abs (P := fun z => NP h z m _ _) (hP.put [.int 0, .ref q_7, .ref q_15, .ref q_23, .null, .null, .null, .null, .null, .null, .null, .null, .int 0, .int 0, .int 0, .null, .null, .null, .null, .null]) (fun h_25 hP => ?_)
  refine zj_aload_n X dX2_init_28 rfl ?_
  refine zj_bipush (v := 16) X dX2_init_29 (by decide) ?_
  refine zj_newI X q320 rfl (by decide) (Nat.le_of_ble_eq_true rfl) (Nat.le_of_ble_eq_true rfl) dX2_init_31 (fun q_31 n_31 => ?_)
  refine ni_abs (P := fun z => NP h z m _ _) (hP.new n_31 (k := 4) rfl) (fun h_31 hP => ?_)
  refine zj_putF X in_X2 tyX2 tyX2_ok nmX2 rfl 4 (by decide) q1145 (fun _ h => h) rfl rfl rfl hP.1 rfl rfl (Nat.le_of_ble_eq_true rfl) (Or.inl (by decide)) dX2_init_33 ?_
  refine ni_abs (P := fun z => NP h z m _ _) (hP.put [.int 0, .ref q_7, .ref q_15, .ref q_23, .ref q_31, .null, .null, .null, .null, .null, .null, .null, .int 0, .int 0, .int 0, .null, .null, .null, .null, .null]) (fun h_33 hP => ?_)
  refine zj_aload_n X dX2_init_36 rfl ?_
  refine zj_bipush (v := 16) X dX2_init_37 (by decide) ?_
  refine zj_newI X q320 rfl (by decide) (Nat.le_of_ble_eq_true rfl) (Nat.le_of_ble_eq_true rfl) dX2_init_39 (fun q_39 n_39 => ?_)
  refine ni_abs (P := fun z => NP h z m _ _) (hP.new n_39 (k := 5) rfl) (fun h_39 hP => ?_)
  refine zj_putF X in_X2 tyX2 tyX2_ok nmX2 rfl 5 (by decide) q1146 (fun _ h => h) rfl rfl rfl hP.1 rfl rfl (Nat.le_of_ble_eq_true rfl) (Or.inl (by decide)) dX2_init_41 ?_
  refine ni_abs (P := fun z => NP h z m _ _) (hP.put [.int 0, .ref q_7, .ref q_15, .ref q_23, .ref q_31, .ref q_39, .null, .null, .null, .null, .null, .null, .int 0, .int 0, .int 0, .null, .null, .null, .null, .null]) (fun h_41 hP => ?_)
  refine zj_aload_n X dX2_init_44 rfl ?_
  refine zj_bipush (v := 16) X dX2_init_45 (by decide) ?_
  refine zj_newZ X q1202 rfl (by decide) (Nat.le_of_ble_eq_true rfl) (Nat.le_of_ble_eq_true rfl) dX2_init_47 (fun q_47 n_47 => ?_)
  refine ni_abs (P := fun z => NP h z m _ _) (hP.new n_47 (k := 6) rfl) (fun h_47 hP => ?_)
  refine zj_putF X in_X2 tyX2 tyX2_ok nmX2 rfl 6 (by decide) q1147 (fun _ h => h) rfl rfl rfl hP.1 rfl rfl (Nat.le_of_ble_eq_true rfl) (Or.inl (by decide)) dX2_init_49 ?_
  refine ni_abs (P := fun z => NP h z m _ _) (hP.put [.int 0, .ref q_7, .ref q_15, .ref q_23, .ref q_31, .ref q_39, .ref q_47, .null, .null, .null, .null, .null, .int 0, .int 0, .int 0, .null, .null, .null, .null, .null]) (fun h_49 hP => ?_)
  refine zj_aload_n X dX2_init_52 rfl ?_
  refine zj_sipush (v := 256) X dX2_init_53 (by decide) ?_
  refine zj_newZ X q1202 rfl (by decide) (Nat.le_of_ble_eq_true rfl) (Nat.le_of_ble_eq_true rfl) dX2_init_56 (fun q_56 n_56 => ?_)
  refine ni_abs (P := fun z => NP h z m _ _) (hP.new n_56 (k := 7) rfl) (fun h_56 hP => ?_)
  refine zj_putF X in_X2 tyX2 tyX2_ok nmX2 rfl 7 (by decide) q1148 (fun _ h => h) rfl rfl rfl hP.1 rfl rfl (Nat.le_of_ble_eq_true rfl) (Or.inl (by decide)) dX2_init_58 ?_
  refine ni_abs (P := fun z => NP h z m _ _) (hP.put [.int 0, .ref q_7, .ref q_15, .ref q_23, .ref q_31, .ref q_39, .ref q_47, .ref q_56, .null, .null, .null, .null, .int 0, .int 0, .int 0, .null, .null, .null, .null, .null]) (fun h_58 hP => ?_)
  refine zj_aload_n X dX2_init_61 rfl ?_
  refine zj_sipush (v := 256) X dX2_init_62 (by decide) ?_
  refine zj_newZ X q1202 rfl (by decide) (Nat.le_of_ble_eq_true rfl) (Nat.le_of_ble_eq_true rfl) dX2_init_65 (fun q_65 n_65 => ?_)
  refine ni_abs (P := fun z => NP h z m _ _) (hP.new n_65 (k := 8) rfl) (fun h_65 hP => ?_)
  refine zj_putF X in_X2 tyX2 tyX2_ok nmX2 rfl 8 (by decide) q1149 (fun _ h => h) rfl rfl rfl hP.1 rfl rfl (Nat.le_of_ble_eq_true rfl) (Or.inl (by decide)) dX2_init_67 ?_
  refine ni_abs (P := fun z => NP h z m _ _) (hP.put [.int 0, .ref q_7, .ref q_15, .ref q_23, .ref q_31, .ref q_39, .ref q_47, .ref q_56, .ref q_65, .null, .null, .null, .int 0, .int 0, .int 0, .null, .null, .null, .null, .null]) (fun h_67 hP => ?_)
  refine zj_aload_n X dX2_init_70 rfl ?_
  refine zj_sipush (v := 256) X dX2_init_71 (by decide) ?_
  refine zj_newZ X q1202 rfl (by decide) (Nat.le_of_ble_eq_true rfl) (Nat.le_of_ble_eq_true rfl) dX2_init_74 (fun q_74 n_74 => ?_)
  refine ni_abs (P := fun z => NP h z m _ _) (hP.new n_74 (k := 9) rfl) (fun h_74 hP => ?_)
  refine zj_putF X in_X2 tyX2 tyX2_ok nmX2 rfl 9 (by decide) q1150 (fun _ h => h) rfl rfl rfl hP.1 rfl rfl (Nat.le_of_ble_eq_true rfl) (Or.inl (by decide)) dX2_init_76 ?_
  refine ni_abs (P := fun z => NP h z m _ _) (hP.put [.int 0, .ref q_7, .ref q_15, .ref q_23, .ref q_31, .ref q_39, .ref q_47, .ref q_56, .ref q_65, .ref q_74, .null, .null, .int 0, .int 0, .int 0, .null, .null, .null, .null, .null]) (fun h_76 hP => ?_)
  refine zj_aload_n X dX2_init_79 rfl ?_
  refine zj_sipush (v := 256) X dX2_init_80 (by decide) ?_
  refine zj_newI X q320 rfl (by decide) (Nat.le_of_ble_eq_true rfl) (Nat.le_of_ble_eq_true rfl) dX2_init_83 (fun q_83 n_83 => ?_)
  refine ni_abs (P := fun z => NP h z m _ _) (hP.new n_83 (k := 10) rfl) (fun h_83 hP => ?_)
  refine zj_putF X in_X2 tyX2 tyX2_ok nmX2 rfl 10 (by decide) q1151 (fun _ h => h) rfl rfl rfl hP.1 rfl rfl (Nat.le_of_ble_eq_true rfl) (Or.inl (by decide)) dX2_init_85 ?_
  refine ni_abs (P := fun z => NP h z m _ _) (hP.put [.int 0, .ref q_7, .ref q_15, .ref q_23, .ref q_31, .ref q_39, .ref q_47, .ref q_56, .ref q_65, .ref q_74, .ref q_83, .null, .int 0, .int 0, .int 0, .null, .null, .null, .null, .null]) (fun h_85 hP => ?_)
  refine zj_aload_n X dX2_init_88 rfl ?_
  refine zj_sipush (v := 256) X dX2_init_89 (by decide) ?_
  refine zj_newI X q320 rfl (by decide) (Nat.le_of_ble_eq_true rfl) (Nat.le_of_ble_eq_true rfl) dX2_init_92 (fun q_92 n_92 => ?_)
  refine ni_abs (P := fun z => NP h z m _ _) (hP.new n_92 (k := 11) rfl) (fun h_92 hP => ?_)
  refine zj_putF X in_X2 tyX2 tyX2_ok nmX2 rfl 11 (by decide) q1152 (fun _ h => h) rfl rfl rfl hP.1 rfl rfl (Nat.le_of_ble_eq_true rfl) (Or.inl (by decide)) dX2_init_94 ?_
  refine ni_abs (P := fun z => NP h z m _ _) (hP.put [.int 0, .ref q_7, .ref q_15, .ref q_23, .ref q_31, .ref q_39, .ref q_47, .ref q_56, .ref q_65, .ref q_74, .ref q_83, .ref q_92, .int 0, .int 0, .int 0, .null, .null, .null, .null, .null]) (fun h_94 hP => ?_)
  refine zj_aload_n X dX2_init_97 rfl ?_
  refine zj_bipush (v := 50) X dX2_init_98 (by decide) ?_
  refine zj_put X in_X2 tyX2 tyX2_ok nmX2 rfl 12 (by decide) q1153 (fun _ h => h) rfl hP.1 rfl rfl (Nat.le_of_ble_eq_true rfl) (Or.inl (by decide)) dX2_init_100 ?_
  refine ni_abs (P := fun z => NP h z m _ _) (hP.put [.int 0, .ref q_7, .ref q_15, .ref q_23, .ref q_31, .ref q_39, .ref q_47, .ref q_56, .ref q_65, .ref q_74, .ref q_83, .ref q_92, .int 50, .int 0, .int 0, .null, .null, .null, .null, .null]) (fun h_100 hP => ?_)
  refine zj_aload_n X dX2_init_103 rfl ?_
  refine zj_bipush (v := 20) X dX2_init_104 (by decide) ?_
  refine zj_put X in_X2 tyX2 tyX2_ok nmX2 rfl 13 (by decide) q1154 (fun _ h => h) rfl hP.1 rfl rfl (Nat.le_of_ble_eq_true rfl) (Or.inl (by decide)) dX2_init_106 ?_
  refine ni_abs (P := fun z => NP h z m _ _) (hP.put [.int 0, .ref q_7, .ref q_15, .ref q_23, .ref q_31, .ref q_39, .ref q_47, .ref q_56, .ref q_65, .ref q_74, .ref q_83, .ref q_92, .int 50, .int 20, .int 0, .null, .null, .null, .null, .null]) (fun h_106 hP => ?_)
  refine zj_aload_n X dX2_init_109 rfl ?_
  refine zj_sipush (v := 256) X dX2_init_110 (by decide) ?_
  refine zj_newZ X q1202 rfl (by decide) (Nat.le_of_ble_eq_true rfl) (Nat.le_of_ble_eq_true rfl) dX2_init_113 (fun q_113 n_113 => ?_)
  refine ni_abs (P := fun z => NP h z m _ _) (hP.new n_113 (k := 15) rfl) (fun h_113 hP => ?_)
  refine zj_putF X in_X2 tyX2 tyX2_ok nmX2 rfl 15 (by decide) q1156 (fun _ h => h) rfl rfl rfl hP.1 rfl rfl (Nat.le_of_ble_eq_true rfl) (Or.inl (by decide)) dX2_init_115 ?_
  refine ni_abs (P := fun z => NP h z m _ _) (hP.put [.int 0, .ref q_7, .ref q_15, .ref q_23, .ref q_31, .ref q_39, .ref q_47, .ref q_56, .ref q_65, .ref q_74, .ref q_83, .ref q_92, .int 50, .int 20, .int 0, .ref q_113, .null, .null, .null, .null]) (fun h_115 hP => ?_)
  refine zj_aload_n X dX2_init_118 rfl ?_
  refine zj_bipush (v := 16) X dX2_init_119 (by decide) ?_
  refine zj_newI X q320 rfl (by decide) (Nat.le_of_ble_eq_true rfl) (Nat.le_of_ble_eq_true rfl) dX2_init_121 (fun q_121 n_121 => ?_)
  refine ni_abs (P := fun z => NP h z m _ _) (hP.new n_121 (k := 16) rfl) (fun h_121 hP => ?_)
  refine zj_putF X in_X2 tyX2 tyX2_ok nmX2 rfl 16 (by decide) q1157 (fun _ h => h) rfl rfl rfl hP.1 rfl rfl (Nat.le_of_ble_eq_true rfl) (Or.inl (by decide)) dX2_init_123 ?_
  refine ni_abs (P := fun z => NP h z m _ _) (hP.put [.int 0, .ref q_7, .ref q_15, .ref q_23, .ref q_31, .ref q_39, .ref q_47, .ref q_56, .ref q_65, .ref q_74, .ref q_83, .ref q_92, .int 50, .int 20, .int 0, .ref q_113, .ref q_121, .null, .null, .null]) (fun h_123 hP => ?_)
  refine zj_aload_n X dX2_init_126 rfl ?_
  refine zj_bipush (v := 16) X dX2_init_127 (by decide) ?_
  refine zj_newZ X q1202 rfl (by decide) (Nat.le_of_ble_eq_true rfl) (Nat.le_of_ble_eq_true rfl) dX2_init_129 (fun q_129 n_129 => ?_)
  refine ni_abs (P := fun z => NP h z m _ _) (hP.new n_129 (k := 17) rfl) (fun h_129 hP => ?_)
  refine zj_putF X in_X2 tyX2 tyX2_ok nmX2 rfl 17 (by decide) q1158 (fun _ h => h) rfl rfl rfl hP.1 rfl rfl (Nat.le_of_ble_eq_true rfl) (Or.inl (by decide)) dX2_init_131 ?_
  refine ni_abs (P := fun z => NP h z m _ _) (hP.put [.int 0, .ref q_7, .ref q_15, .ref q_23, .ref q_31, .ref q_39, .ref q_47, .ref q_56, .ref q_65, .ref q_74, .ref q_83, .ref q_92, .int 50, .int 20, .int 0, .ref q_113, .ref q_121, .ref q_129, .null, .null]) (fun h_131 hP => ?_)
  refine zj_aload_n X dX2_init_134 rfl ?_
  refine zj_bipush (v := 16) X dX2_init_135 (by decide) ?_
  refine zj_newI X q320 rfl (by decide) (Nat.le_of_ble_eq_true rfl) (Nat.le_of_ble_eq_true rfl) dX2_init_137 (fun q_137 n_137 => ?_)
  refine ni_abs (P := fun z => NP h z m _ _) (hP.new n_137 (k := 18) rfl) (fun h_137 hP => ?_)
  refine zj_putF X in_X2 tyX2 tyX2_ok nmX2 rfl 18 (by decide) q1159 (fun _ h => h) rfl rfl rfl hP.1 rfl rfl (Nat.le_of_ble_eq_true rfl) (Or.inl (by decide)) dX2_init_139 ?_
  refine ni_abs (P := fun z => NP h z m _ _) (hP.put [.int 0, .ref q_7, .ref q_15, .ref q_23, .ref q_31, .ref q_39, .ref q_47, .ref q_56, .ref q_65, .ref q_74, .ref q_83, .ref q_92, .int 50, .int 20, .int 0, .ref q_113, .ref q_121, .ref q_129, .ref q_137, .null]) (fun h_139 hP => ?_)
  refine zj_aload_n X dX2_init_142 rfl ?_
  refine zj_bipush (v := 16) X dX2_init_143 (by decide) ?_
  refine zj_newI X q320 rfl (by decide) (Nat.le_of_ble_eq_true rfl) (Nat.le_of_ble_eq_true rfl) dX2_init_145 (fun q_145 n_145 => ?_)
  refine ni_abs (P := fun z => NP h z m _ _) (hP.new n_145 (k := 19) rfl) (fun h_145 hP => ?_)
  refine zj_putF X in_X2 tyX2 tyX2_ok nmX2 rfl 19 (by decide) q1160 (fun _ h => h) rfl rfl rfl hP.1 rfl rfl (Nat.le_of_ble_eq_true rfl) (Or.inl (by decide)) dX2_init_147 ?_
  refine ni_abs (P := fun z => NP h z m _ _) (hP.put [.int 0, .ref q_7, .ref q_15, .ref q_23, .ref q_31, .ref q_39, .ref q_47, .ref q_56, .ref q_65, .ref q_74, .ref q_83, .ref q_92, .int 50, .int 20, .int 0, .ref q_113, .ref q_121, .ref q_129, .ref q_137, .ref q_145]) (fun h_147 hP => ?_)
  obtain ⟨ad, hM0, hF0⟩ : ∃ ad, MR h h_147 m ad 0 sI ∧ ∀ k, mA k = true → h (ad k) = none := ⟨_, NP.MR (ad := fun k => match k with | 1 => q_7 | 2 => q_15 | 3 => q_23 | 4 => q_31 | 5 => q_39 | 6 => q_47 | 7 => q_56 | 8 => q_65 | 9 => q_74 | 10 => q_83 | 11 => q_92 | 15 => q_113 | 16 => q_121 | 17 => q_129 | 18 => q_137 | 19 => q_145 | _ => 0) hP (fun k hk => by rcases mA_or hk with rfl | rfl | rfl | rfl | rfl | rfl | rfl | rfl | rfl | rfl | rfl | rfl | rfl | rfl | rfl | rfl <;> simp) (fun p hp => by simp only [List.mem_cons, List.not_mem_nil, or_false] at hp; rcases hp with rfl | rfl | rfl | rfl | rfl | rfl | rfl | rfl | rfl | rfl | rfl | rfl | rfl | rfl | rfl | rfl <;> exact ⟨rfl, rfl⟩)⟩
  refine zj_iconst (v := 0) X dX2_init_150 rfl ?_
  refine zj_istore_n X dX2_init_151 (by decide) ?_
  have L_152 : ∀ k_152 : Nat, ∀ (i : Nat) (hi : zz_H), MR h hi m ad 0 (zk sI 10 (mUp i (fun _ => -1) (sI 10))) → i ≤ 256 → 256 < i + k_152 → zz_J pP l eE (zz_rm (1) (20) (16) (1696)) sS mM aA bB tT cC g 2 Q hi 16 1696 152 [(0, .ref m), (1, .int (nI i))] [] := by
    intro k_152
    induction k_152 with
    | zero =>
      intro i hi hM h1 h2
      omega
    | succ k_152 ih_152 =>
      intro i hi hM h1 h2
      refine zj_iload_n X dX2_init_152 rfl ?_
      refine zj_sipush (v := 256) X dX2_init_153 (by decide) ?_
      refine zj_icmp_ge (tgt := 172) X dX2_init_156 (by decide) (fun c_156 => ?_) (fun c_156 => ?_)
      · have e_156 : i = 256 := zi_ge (n := 256) h1 (by omega) c_156
        exact zj_vret X hQ (⟨rfl, ad, _, hM, by rw [e_156]; exact mEq.rf, hF0⟩) rfl (Nat.le_of_ble_eq_true rfl) (Nat.le_of_ble_eq_true rfl) dX2_init_172
      · have e_156 : i < 256 := zi_lt (n := 256) h1 (by omega) c_156
        refine zj_aload_n X dX2_init_159 rfl ?_
        refine zj_get X in_X2 rfl 10 (by decide) q1151 (fun _ h => h) hM.o rfl (Or.inl (by decide)) dX2_init_160 ?_
        refine zj_iload_n X dX2_init_163 rfl ?_
        refine zj_iconst (v := (-1)) X dX2_init_164 rfl ?_
        refine zm_ia X hM 10 rfl (rfl) (e_156) dX2_init_165 (fun h9 hM => ?_)
        refine zj_iinc X dX2_init_166 rfl (zi_1 i) (by decide) ?_
        refine zj_goto (tgt := 152) X dX2_init_169 (by decide) ?_
        exact zj_lo (ih_152 (i + 1) _ (by rw [zk_u, zk_s, mUp_s (f := fun _ => -1)] at hM; exact hM) (by omega) (by omega)) ⟨rfl, rfl, trivial⟩
  exact zj_lo (L_152 257 0 _ (by rw [mUp_0, zk_id]; exact hM0) (Nat.zero_le _) (by omega)) ⟨rfl, rfl, trivial⟩

