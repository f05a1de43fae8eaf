set_option maxRecDepth 100000
/-! THE REFERENCE: rounds, sharing, reviews, appeals -/
/-- behind the first two loops of a round: the marks found, the new weights -/
theorem mUpd {σ : Nat → Nat → Int32} {k i : Nat} {f : Nat → Int32} {x : Int32} (hx : x = f i) : zk (zk σ k (mUp i f (σ k))) k (upd (zk σ k (mUp i f (σ k)) k) i x) = zk σ k (mUp (i + 1) f (σ k)) := by
  rw [zk_u, zk_s, hx, mUp_s]

set_option maxHeartbeats 4000000 in
theorem cm_changes (l : Launch) (g : zz_G) {h0 h : zz_H} {m : Nat} {ad : Nat → Nat} {n : Nat} {σ : Nat → Nat → Int32} (hM : MR h0 h m ad n σ) (hc : mCal n σ) : zz_C l g yX2_changes cX2_changes 3 (some .boolean) (zz_rm 6 142 0 0) [.ref m] h (fun r h' => r = some (.int (zb (mCg n σ))) ∧ ∃ σ', MR h0 h' m ad n σ' ∧ mEq σ' (mRd n σ) ∧ σ' 14 0 = σ 14 0) := by
  refine zz_C.of (by decide) (Nat.le_of_ble_eq_true rfl) (fun pP eE sS mM aA bB tT cC X Q hQ => ?_)
  have hn := hM.le
  refine zj_iconst (v := 0) X dX2_changes_0 rfl ?_
  refine zj_istore_n X dX2_changes_1 (by decide) ?_
  have L_2 : ∀ k_2 : Nat, ∀ (i : Nat) (h : zz_H), MR h0 h m ad n (zk σ 18 (mUp i (mMark n σ) (σ 18))) → i ≤ n → n < i + k_2 → zz_J pP l eE (zz_rm 6 142 0 0) sS mM aA bB tT cC g 3 Q h 0 0 2 [(0, .ref m), (1, .int (nI i))] [] := by
    intro k_2
    induction k_2 with
    | zero =>
      intro i h hM h1 h2
      omega
    | succ k_2 ih_2 =>
      intro i h hM h1 h2
      refine zj_iload_n X dX2_changes_2 rfl ?_
      refine zj_aload_n X dX2_changes_3 rfl ?_
      refine zj_get X in_X2 rfl 0 (by decide) q1141 (fun _ h => h) hM.o rfl (Or.inl (by decide)) dX2_changes_4 ?_
      refine zj_icmp_ge (tgt := 27) X dX2_changes_7 (by decide) (fun c_7 => ?_) (fun c_7 => ?_)
      · have e_7 := zi_ge h1 (by omega) c_7
        refine zj_iconst (v := 0) X dX2_changes_27 rfl ?_
        refine zj_istore_n X dX2_changes_28 (by decide) ?_
        refine zj_iconst (v := 0) X dX2_changes_29 rfl ?_
        refine zj_istore_n X dX2_changes_30 (by decide) ?_
        have e_18 : mUp i (mMark n σ) (σ 18) = mUp n (mMark n σ) (σ 18) := by rw [e_7]
        rw [e_18] at hM
        generalize hs1 : zk σ 18 (mUp n (mMark n σ) (σ 18)) = σ1 at hM
        have hE1 : mEq σ1 σ := by rw [← hs1]; exact mEq.rf.scr (by decide) _
        have h18 : ∀ j, j < n → σ1 18 j = mMark n σ j := fun j hj => by rw [← hs1, zk_s, mUp_lt hj]
        have h141 : σ1 14 0 = σ 14 0 := by rw [← hs1]; rfl
        have L_31 : ∀ k_31 : Nat, ∀ (i : Nat) (h : zz_H), MR h0 h m ad n (zk σ1 19 (mUp i (mNew n σ) (σ1 19))) → i ≤ n → n < i + k_31 → zz_J pP l eE (zz_rm 6 142 0 0) sS mM aA bB tT cC g 3 Q h 0 0 31 [(0, .ref m), (1, .int 0), (2, .int (nI i))] [] := by
          intro k_31
          induction k_31 with
          | zero =>
            intro i h hM h1 h2
            omega
          | succ k_31 ih_31 =>
            intro i h hM h1 h2
            refine zj_iload_n X dX2_changes_31 rfl ?_
            refine zj_aload_n X dX2_changes_32 rfl ?_
            refine zj_get X in_X2 rfl 0 (by decide) q1141 (fun _ h => h) hM.o rfl (Or.inl (by decide)) dX2_changes_33 ?_
            refine zj_icmp_ge (tgt := 56) X dX2_changes_36 (by decide) (fun c_36 => ?_) (fun c_36 => ?_)
            · have e_36 := zi_ge h1 (by omega) c_36
              refine zj_iconst (v := 0) X dX2_changes_56 rfl ?_
              refine zj_istore_n X dX2_changes_57 (by decide) ?_
              have e_19 : mUp i (mNew n σ) (σ1 19) = mUp n (mNew n σ) (σ1 19) := by rw [e_36]
              rw [e_19] at hM
              generalize hs2 : zk σ1 19 (mUp n (mNew n σ) (σ1 19)) = σ2 at hM
              have hE2 : mEq σ2 σ := by rw [← hs2]; exact hE1.scr (by decide) _
              have h19 : ∀ j, j < n → σ2 19 j = mNew n σ j := fun j hj => by rw [← hs2, zk_s, mUp_lt hj]
              have h142 : σ2 14 0 = σ 14 0 := by rw [← hs2]; exact h141
              have L_58 : ∀ k_58 : Nat, ∀ (i : Nat) (h : zz_H), MR h0 h m ad n (zk σ2 3 (mUp i (mNew n σ) (σ 3))) → i ≤ n → n < i + k_58 → zz_J pP l eE (zz_rm 6 142 0 0) sS mM aA bB tT cC g 3 Q h 0 0 58 [(0, .ref m), (1, .int (zb (mDf (σ 3) (mNew n σ) i))), (2, .int (nI i))] [] := by
                intro k_58
                induction k_58 with
                | zero =>
                  intro i h hM h1 h2
                  omega
                | succ k_58 ih_58 =>
                  intro i h hM h1 h2
                  refine zj_iload_n X dX2_changes_58 rfl ?_
                  refine zj_aload_n X dX2_changes_59 rfl ?_
                  refine zj_get X in_X2 rfl 0 (by decide) q1141 (fun _ h => h) hM.o rfl (Or.inl (by decide)) dX2_changes_60 ?_
                  refine zj_icmp_ge (tgt := 107) X dX2_changes_63 (by decide) (fun c_63 => ?_) (fun c_63 => ?_)
                  · have e_63 := zi_ge h1 (by omega) c_63
                    refine zj_iload_n X dX2_changes_107 rfl ?_
                    exact zj_zret X hQ (⟨zi_c (by rw [e_63]; rfl), _, hM, by rw [e_63]; exact hE2.zku 3 _, h142⟩) rfl (zb_nar _) (Nat.le_of_ble_eq_true rfl) (Nat.le_of_ble_eq_true rfl) dX2_changes_108
                  · have e_63 := zi_lt h1 (by omega) c_63
                    refine zj_iload_n X dX2_changes_66 rfl ?_
                    refine zj_aload_n X dX2_changes_67 rfl ?_
                    refine zj_get X in_X2 rfl 3 (by decide) q1144 (fun _ h => h) hM.o rfl (Or.inl (by decide)) dX2_changes_68 ?_
                    refine zj_iload_n X dX2_changes_71 rfl ?_
                    refine zj_iald X (hM.arr 3 rfl) (rfl) (by show _ < 16; omega) (by omega) dX2_changes_72 ?_
                    refine zj_aload_n X dX2_changes_73 rfl ?_
                    refine zj_get X in_X2 rfl 19 (by decide) q1160 (fun _ h => h) hM.o rfl (Or.inl (by decide)) dX2_changes_74 ?_
                    refine zj_iload_n X dX2_changes_77 rfl ?_
                    refine zj_iald X (hM.arr 19 rfl) (rfl) (by show _ < 16; omega) (by omega) dX2_changes_78 ?_
                    refine zj_icmp_eq (tgt := 86) X dX2_changes_79 (by decide) (fun c_79 => ?_) (fun c_79 => ?_)
                    · have e_79 := c_79
                      rw [show zk σ2 3 (mUp i (mNew n σ) (σ 3)) 3 i = σ 3 i from mUp_ge (Nat.le_refl _), show zk σ2 3 (mUp i (mNew n σ) (σ 3)) 19 i = mNew n σ i from h19 i e_63] at e_79
                      refine zj_iconst (v := 0) X dX2_changes_86 rfl ?_
                      refine zj_ior X dX2_changes_87 ?_
                      refine zj_istore_n X dX2_changes_88 (by decide) ?_
                      refine zj_aload_n X dX2_changes_89 rfl ?_
                      refine zj_get X in_X2 rfl 3 (by decide) q1144 (fun _ h => h) hM.o rfl (Or.inl (by decide)) dX2_changes_90 ?_
                      refine zj_iload_n X dX2_changes_93 rfl ?_
                      refine zj_aload_n X dX2_changes_94 rfl ?_
                      refine zj_get X in_X2 rfl 19 (by decide) q1160 (fun _ h => h) hM.o rfl (Or.inl (by decide)) dX2_changes_95 ?_
                      refine zj_iload_n X dX2_changes_98 rfl ?_
                      refine zj_iald X (hM.arr 19 rfl) (rfl) (by show _ < 16; omega) (by omega) dX2_changes_99 ?_
                      refine zm_ia X hM 3 rfl (rfl) (by show _ < 16; omega) dX2_changes_100 (fun h9 hM => ?_)
                      refine zj_iinc X dX2_changes_101 rfl (zi_1 i) (by decide) ?_
                      refine zj_goto (tgt := 58) X dX2_changes_104 (by decide) ?_
                      exact zj_lo (ih_58 (i + 1) _ (by rw [zk_u, zk_s, show zk σ2 3 (mUp i (mNew n σ) (σ 3)) 19 i = mNew n σ i from h19 i e_63, mUp_s] at hM; exact hM) (by omega) (by omega)) ⟨rfl, zi_c (by have hz : ∀ b : Bool, zb (mDf (σ 3) (mNew n σ) i || b) = zb (mDf (σ 3) (mNew n σ) i) ||| zb b := fun b => (zb_or _ _).symm; simp only [mDf, hz, e_79, ne_eq, not_true_eq_false, not_false_eq_true, decide_true, decide_false]; try rfl), rfl, trivial⟩
                    · have e_79 := c_79
                      rw [show zk σ2 3 (mUp i (mNew n σ) (σ 3)) 3 i = σ 3 i from mUp_ge (Nat.le_refl _), show zk σ2 3 (mUp i (mNew n σ) (σ 3)) 19 i = mNew n σ i from h19 i e_63] at e_79
                      refine zj_iconst (v := 1) X dX2_changes_82 rfl ?_
                      refine zj_goto (tgt := 87) X dX2_changes_83 (by decide) ?_
                      refine zj_ior X dX2_changes_87 ?_
                      refine zj_istore_n X dX2_changes_88 (by decide) ?_
                      refine zj_aload_n X dX2_changes_89 rfl ?_
                      refine zj_get X in_X2 rfl 3 (by decide) q1144 (fun _ h => h) hM.o rfl (Or.inl (by decide)) dX2_changes_90 ?_
                      refine zj_iload_n X dX2_changes_93 rfl ?_
                      refine zj_aload_n X dX2_changes_94 rfl ?_
                      refine zj_get X in_X2 rfl 19 (by decide) q1160 (fun _ h => h) hM.o rfl (Or.inl (by decide)) dX2_changes_95 ?_
                      refine zj_iload_n X dX2_changes_98 rfl ?_
                      refine zj_iald X (hM.arr 19 rfl) (rfl) (by show _ < 16; omega) (by omega) dX2_changes_99 ?_
                      refine zm_ia X hM 3 rfl (rfl) (by show _ < 16; omega) dX2_changes_100 (fun h9 hM => ?_)
                      refine zj_iinc X dX2_changes_101 rfl (zi_1 i) (by decide) ?_
                      refine zj_goto (tgt := 58) X dX2_changes_104 (by decide) ?_
                      exact zj_lo (ih_58 (i + 1) _ (by rw [zk_u, zk_s, show zk σ2 3 (mUp i (mNew n σ) (σ 3)) 19 i = mNew n σ i from h19 i e_63, mUp_s] at hM; exact hM) (by omega) (by omega)) ⟨rfl, zi_c (by have hz : ∀ b : Bool, zb (mDf (σ 3) (mNew n σ) i || b) = zb (mDf (σ 3) (mNew n σ) i) ||| zb b := fun b => (zb_or _ _).symm; simp only [mDf, hz, e_79, ne_eq, not_true_eq_false, not_false_eq_true, decide_true, decide_false]; try rfl), rfl, trivial⟩
              exact zj_lo (L_58 (n + 1) 0 _ (by rw [mUp_0, ← hE2 3 (by decide) (by decide), zk_id]; exact hM) (Nat.zero_le _) (by omega)) ⟨rfl, rfl, rfl, trivial⟩
            · have e_36 := zi_lt h1 (by omega) c_36
              have hE : mEq (zk σ1 19 (mUp i (mNew n σ) (σ1 19))) σ := hE1.scr (by decide) _
              refine zj_aload_n X dX2_changes_39 rfl ?_
              refine zj_get X in_X2 rfl 19 (by decide) q1160 (fun _ h => h) hM.o rfl (Or.inl (by decide)) dX2_changes_40 ?_
              refine zj_iload_n X dX2_changes_43 rfl ?_
              refine zj_aload_n X dX2_changes_44 rfl ?_
              refine zj_iload_n X dX2_changes_45 rfl ?_
              refine zj_callVp (n := 1) (As := [_]) X (cm_freshWeight l g hM (mCal_c hE.sym hc) i e_36) hM.o rfl rfl ⟨by decide, by decide, by decide +kernel⟩ (lw_V q1368 q1370 qs44 q50 q1371) ⟨Nat.le_of_ble_eq_true rfl, Nat.le_of_ble_eq_true rfl⟩ rfl rfl (Nat.le_of_ble_eq_true rfl) ⟨Nat.le_of_ble_eq_true rfl, Nat.le_of_ble_eq_true rfl⟩ dX2_changes_46 ?_
              refine zm_ia X hM 19 rfl (rfl) (by show _ < 16; omega) dX2_changes_49 (fun h9 hM => ?_)
              refine zj_iinc X dX2_changes_50 rfl (zi_1 i) (by decide) ?_
              refine zj_goto (tgt := 31) X dX2_changes_53 (by decide) ?_
              exact zj_lo (ih_31 (i + 1) _ (by rw [mUpd (mFresh_c hE h18)] at hM; exact hM) (by omega) (by omega)) ⟨rfl, rfl, rfl, trivial⟩
        exact zj_lo (L_31 (n + 1) 0 _ (by rw [mUp_0, zk_id]; exact hM) (Nat.zero_le _) (by omega)) ⟨rfl, rfl, rfl, trivial⟩
      · have e_7 := zi_lt h1 (by omega) c_7
        refine zj_aload_n X dX2_changes_10 rfl ?_
        refine zj_get X in_X2 rfl 18 (by decide) q1159 (fun _ h => h) hM.o rfl (Or.inl (by decide)) dX2_changes_11 ?_
        refine zj_iload_n X dX2_changes_14 rfl ?_
        refine zj_aload_n X dX2_changes_15 rfl ?_
        refine zj_iload_n X dX2_changes_16 rfl ?_
        refine zj_callVp (n := 1) (As := [_]) X (cm_mark l g hM i e_7) hM.o rfl rfl ⟨by decide, by decide, by decide +kernel⟩ (lw_V q1340 q1342 qs37 q50 q1343) ⟨Nat.le_of_ble_eq_true rfl, Nat.le_of_ble_eq_true rfl⟩ rfl rfl (Nat.le_of_ble_eq_true rfl) ⟨Nat.le_of_ble_eq_true rfl, Nat.le_of_ble_eq_true rfl⟩ dX2_changes_17 ?_
        refine zm_ia X hM 18 rfl (rfl) (by show _ < 16; omega) dX2_changes_20 (fun h9 hM => ?_)
        refine zj_iinc X dX2_changes_21 rfl (zi_1 i) (by decide) ?_
        refine zj_goto (tgt := 2) X dX2_changes_24 (by decide) ?_
        exact zj_lo (ih_2 (i + 1) _ (by rw [mUpd (mMark_c (mEq.rf.scr (by decide) _ : mEq _ σ))] at hM; exact hM) (by omega) (by omega)) ⟨rfl, rfl, trivial⟩
  exact zj_lo (L_2 (n + 1) 0 _ (by rw [mUp_0, zk_id]; exact hM) (Nat.zero_le _) (by omega)) ⟨rfl, rfl, trivial⟩

def mDfS (f f' : Nat → Int32) : Nat → Int32
  | 0 => 0
  | k + 1 => mDfS f f' k + (if f k = f' k then 0 else 1)
def stPlain (n : Nat) (σ : Nat → Nat → Int32) : Nat → Nat → Int32 := zk σ 3 (mUp n (mPlain σ) (σ 3))
def mPlainR (n : Nat) (σ : Nat → Nat → Int32) : Int32 := mDfS (σ 3) (mPlain σ) n
theorem mPlain_3 {σ : Nat → Nat → Int32} {f : Nat → Int32} {p : Nat} : mPlain (zk σ 3 f) p = mPlain σ p := rfl
theorem mCal_3 {σ : Nat → Nat → Int32} {f : Nat → Int32} {n : Nat} (h : mCal n σ) : mCal n (zk σ 3 f) := h

set_option maxHeartbeats 4000000 in
theorem cm_plain (l : Launch) (g : zz_G) {h0 h : zz_H} {m : Nat} {ad : Nat → Nat} {n : Nat} {σ : Nat → Nat → Int32} (hM : MR h0 h m ad n σ) (hc : mCal n σ) : zz_C l g yX2_plain cX2_plain 3 (some .int) (zz_rm 3 62 0 0) [.ref m] h (zm h0 m ad (mPlainR n σ) 0 n (stPlain n σ)) := by
  refine zz_C.of (by decide) (Nat.le_of_ble_eq_true rfl) (fun pP eE sS mM aA bB tT cC X Q hQ => ?_)
  have hn := hM.le
  refine zj_aload_n X dX2_plain_0 rfl ?_
  refine zj_iconst (v := 0) X dX2_plain_1 rfl ?_
  refine zm_th X hM q1155 (fun _ h => h) dX2_plain_2 (fun h9 σ1 hM hE h14 => ?_)
  refine zj_iconst (v := 0) X dX2_plain_5 rfl ?_
  refine zj_istore_n X dX2_plain_6 (by decide) ?_
  refine zj_iconst (v := 0) X dX2_plain_7 rfl ?_
  refine zj_istore_n X dX2_plain_8 (by decide) ?_
  have hc1 := mCal_c hE.sym hc
  have L_9 : ∀ k_9 : Nat, ∀ (i : Nat) (h : zz_H), MR h0 h m ad n (zk σ1 3 (mUp i (mPlain σ1) (σ1 3))) → i ≤ n → n < i + k_9 → zz_J pP l eE (zz_rm 3 62 0 0) sS mM aA bB tT cC g 3 Q h 0 0 9 [(0, .ref m), (1, .int (mDfS (σ1 3) (mPlain σ1) i)), (2, .int (nI i))] [] := by
    intro k_9
    induction k_9 with
    | zero =>
      intro i h hM h1 h2
      omega
    | succ k_9 ih_9 =>
      intro i h hM h1 h2
      refine zj_iload_n X dX2_plain_9 rfl ?_
      refine zj_aload_n X dX2_plain_10 rfl ?_
      refine zj_get X in_X2 rfl 0 (by decide) q1141 (fun _ h => h) hM.o rfl (Or.inl (by decide)) dX2_plain_11 ?_
      refine zj_icmp_ge (tgt := 56) X dX2_plain_14 (by decide) (fun c_14 => ?_) (fun c_14 => ?_)
      · have e_14 := zi_ge h1 (by omega) c_14
        refine zj_iload_n X dX2_plain_56 rfl ?_
        exact zj_iret X hQ (⟨zi_c (by rw [e_14, mPlainR, hE 3 (by decide) (by decide), show mPlain σ1 = mPlain σ from funext fun p => mPlain_c hE]), _, hM, by rw [e_14, stPlain, hE 3 (by decide) (by decide), show mPlain σ1 = mPlain σ from funext fun p => mPlain_c hE]; exact hE.zku 3 _, h14⟩) rfl (Nat.le_of_ble_eq_true rfl) (Nat.le_of_ble_eq_true rfl) dX2_plain_57
      · have e_14 := zi_lt h1 (by omega) c_14
        refine zj_iload_n X dX2_plain_17 rfl ?_
        refine zj_aload_n X dX2_plain_18 rfl ?_
        refine zj_get X in_X2 rfl 3 (by decide) q1144 (fun _ h => h) hM.o rfl (Or.inl (by decide)) dX2_plain_19 ?_
        refine zj_iload_n X dX2_plain_22 rfl ?_
        refine zj_iald X (hM.arr 3 rfl) (rfl) (by show _ < 16; omega) (by omega) dX2_plain_23 ?_
        refine zj_aload_n X dX2_plain_24 rfl ?_
        refine zj_iload_n X dX2_plain_25 rfl ?_
        refine zj_callVp (n := 1) (As := [_]) X (cm_plainWeight l g hM (mCal_3 hc1) i e_14) hM.o rfl rfl ⟨by decide, by decide, by decide +kernel⟩ (lw_V q1320 q1322 qs35 q50 q1323) ⟨Nat.le_of_ble_eq_true rfl, Nat.le_of_ble_eq_true rfl⟩ rfl rfl (Nat.le_of_ble_eq_true rfl) ⟨Nat.le_of_ble_eq_true rfl, Nat.le_of_ble_eq_true rfl⟩ dX2_plain_26 ?_
        refine zj_icmp_ne (tgt := 36) X dX2_plain_29 (by decide) (fun c_29 => ?_) (fun c_29 => ?_)
        · have e_29 := c_29
          rw [show zk σ1 3 (mUp i (mPlain σ1) (σ1 3)) 3 i = σ1 3 i from mUp_ge (Nat.le_refl _), mPlain_3] at e_29
          refine zj_iconst (v := 1) X dX2_plain_36 rfl ?_
          refine zj_iadd X dX2_plain_37 ?_
          refine zj_istore_n X dX2_plain_38 (by decide) ?_
          refine zj_aload_n X dX2_plain_39 rfl ?_
          refine zj_get X in_X2 rfl 3 (by decide) q1144 (fun _ h => h) hM.o rfl (Or.inl (by decide)) dX2_plain_40 ?_
          refine zj_iload_n X dX2_plain_43 rfl ?_
          refine zj_aload_n X dX2_plain_44 rfl ?_
          refine zj_iload_n X dX2_plain_45 rfl ?_
          refine zj_callVp (n := 1) (As := [_]) X (cm_plainWeight l g hM (mCal_3 hc1) i e_14) hM.o rfl rfl ⟨by decide, by decide, by decide +kernel⟩ (lw_V q1320 q1322 qs35 q50 q1323) ⟨Nat.le_of_ble_eq_true rfl, Nat.le_of_ble_eq_true rfl⟩ rfl rfl (Nat.le_of_ble_eq_true rfl) ⟨Nat.le_of_ble_eq_true rfl, Nat.le_of_ble_eq_true rfl⟩ dX2_plain_46 ?_
          refine zm_ia X hM 3 rfl (rfl) (by show _ < 16; omega) dX2_plain_49 (fun h9 hM => ?_)
          refine zj_iinc X dX2_plain_50 rfl (zi_1 i) (by decide) ?_
          refine zj_goto (tgt := 9) X dX2_plain_53 (by decide) ?_
          exact zj_lo (ih_9 (i + 1) _ (by rw [mUpd (f := mPlain σ1) mPlain_3] at hM; exact hM) (by omega) (by omega)) ⟨rfl, zi_c (by simp [mDfS, e_29]), rfl, trivial⟩
        · have e_29 := c_29
          rw [show zk σ1 3 (mUp i (mPlain σ1) (σ1 3)) 3 i = σ1 3 i from mUp_ge (Nat.le_refl _), mPlain_3] at e_29
          refine zj_iconst (v := 0) X dX2_plain_32 rfl ?_
          refine zj_goto (tgt := 37) X dX2_plain_33 (by decide) ?_
          refine zj_iadd X dX2_plain_37 ?_
          refine zj_istore_n X dX2_plain_38 (by decide) ?_
          refine zj_aload_n X dX2_plain_39 rfl ?_
          refine zj_get X in_X2 rfl 3 (by decide) q1144 (fun _ h => h) hM.o rfl (Or.inl (by decide)) dX2_plain_40 ?_
          refine zj_iload_n X dX2_plain_43 rfl ?_
          refine zj_aload_n X dX2_plain_44 rfl ?_
          refine zj_iload_n X dX2_plain_45 rfl ?_
          refine zj_callVp (n := 1) (As := [_]) X (cm_plainWeight l g hM (mCal_3 hc1) i e_14) hM.o rfl rfl ⟨by decide, by decide, by decide +kernel⟩ (lw_V q1320 q1322 qs35 q50 q1323) ⟨Nat.le_of_ble_eq_true rfl, Nat.le_of_ble_eq_true rfl⟩ rfl rfl (Nat.le_of_ble_eq_true rfl) ⟨Nat.le_of_ble_eq_true rfl, Nat.le_of_ble_eq_true rfl⟩ dX2_plain_46 ?_
          refine zm_ia X hM 3 rfl (rfl) (by show _ < 16; omega) dX2_plain_49 (fun h9 hM => ?_)
          refine zj_iinc X dX2_plain_50 rfl (zi_1 i) (by decide) ?_
          refine zj_goto (tgt := 9) X dX2_plain_53 (by decide) ?_
          exact zj_lo (ih_9 (i + 1) _ (by rw [mUpd (f := mPlain σ1) mPlain_3] at hM; exact hM) (by omega) (by omega)) ⟨rfl, zi_c (by simp [mDfS, e_29]), rfl, trivial⟩
  exact zj_lo (L_9 (n + 1) 0 _ (by rw [mUp_0, zk_id]; exact hM) (Nat.zero_le _) (by omega)) ⟨rfl, rfl, rfl, trivial⟩

def spSettle (n : Nat) (σ : Nat → Nat → Int32) (x : Int32) : zS := if inB 1 20 x = true then (0, nI (mSet n (cN x) σ).1, n, (mSet n (cN x) σ).2) else (1, 0, n, σ)
theorem mSet_le (n k : Nat) (σ : Nat → Nat → Int32) : (mSet n k σ).1 ≤ k := by
  induction k generalizing σ with
  | zero => exact Nat.le_refl _
  | succ k ih =>
    unfold mSet
    split
    · exact Nat.succ_le_succ (ih _)
    · exact Nat.zero_le _

set_option maxHeartbeats 4000000 in
theorem cm_settle (l : Launch) (g : zz_G) {h0 h : zz_H} {m : Nat} {ad : Nat → Nat} {n : Nat} {σ : Nat → Nat → Int32} (hM : MR h0 h m ad n σ) (hc : mCal n σ) (x : Int32) : zz_C l g yX2_settle cX2_settle 3 (some .int) (zz_rm 7 164 0 0) [.ref m, .int x] h (zs h0 m ad (spSettle n σ x)) := by
  refine zz_C.of (by decide) (Nat.le_of_ble_eq_true rfl) (fun pP eE sS mM aA bB tT cC X Q hQ => ?_)
  have hn := hM.le
  refine zj_aload_n X dX2_settle_0 rfl ?_
  refine zj_iconst (v := 0) X dX2_settle_1 rfl ?_
  refine zm_th X hM q1155 (fun _ h => h) dX2_settle_2 (fun h9 σ1 hM hE h14 => ?_)
  refine zj_iload_n X dX2_settle_5 rfl ?_
  refine zj_iconst (v := 1) X dX2_settle_6 rfl ?_
  refine zj_bipush (v := 20) X dX2_settle_7 (by decide) ?_
  refine zj_callSp (n := 3) (As := [_, _, _]) X (cm_isBetween l g _ _ _ _) ⟨by decide, by decide, by decide +kernel⟩ (lw_S q1211 q1212 q50 q1213) ⟨Nat.le_of_ble_eq_true rfl, Nat.le_of_ble_eq_true rfl⟩ rfl rfl (Nat.le_of_ble_eq_true rfl) ⟨Nat.le_of_ble_eq_true rfl, Nat.le_of_ble_eq_true rfl⟩ dX2_settle_9 ?_
  refine zj_if_ne (tgt := 21) X dX2_settle_12 (by decide) (fun c_12 => ?_) (fun c_12 => ?_)
  · have e_12 : inB 1 20 x = true := zb_n.mp c_12
    obtain ⟨r, hr1, hr2, rfl⟩ := inB_t (a := 1) (b := 20) (by decide) (by decide) e_12
    refine zj_iconst (v := 0) X dX2_settle_21 rfl ?_
    refine zj_istore_n X dX2_settle_22 (by decide) ?_
    have L_23 : ∀ k_23 : Nat, ∀ (i : Nat) (h : zz_H) (σi : Nat → Nat → Int32), MR h0 h m ad n σi → mCal n σi → σi 14 0 = 0 → i ≤ r → r < i + k_23 → (i + (mSet n (r - i) σi).1 = (mSet n r σ).1 ∧ mEq (mSet n (r - i) σi).2 (mSet n r σ).2) → zz_J pP l eE (zz_rm 7 164 0 0) sS mM aA bB tT cC g 3 Q h 0 0 23 [(0, .ref m), (1, .int (nI r)), (2, .int (nI i))] [] := by
      intro k_23
      induction k_23 with
      | zero =>
        intro i h σi hMi hci h4 h1 h2 h3
        omega
      | succ k_23 ih_23 =>
        intro i h σi hMi hci h4 h1 h2 h3
        refine zj_iload_n X dX2_settle_23 rfl ?_
        refine zj_iload_n X dX2_settle_24 rfl ?_
        refine zj_icmp_ge (tgt := 41) X dX2_settle_25 (by decide) (fun c_25 => ?_) (fun c_25 => ?_)
        · have e_25 := zi_ge h1 (by omega) c_25
          refine zj_iload_n X dX2_settle_41 rfl ?_
          exact zj_iret X hQ (zs_of (by rw [spSettle, if_pos e_12, cN_j (by omega)]) ⟨zi_c (by rw [← h3.1, e_25, Nat.sub_self]; rfl), _, hMi, (by have q := h3.2; rw [e_25, Nat.sub_self] at q; exact q), h4⟩) rfl (Nat.le_of_ble_eq_true rfl) (Nat.le_of_ble_eq_true rfl) dX2_settle_42
        · have e_25 := zi_lt h1 (by omega) c_25
          refine zj_aload_n X dX2_settle_28 rfl ?_
          refine zj_callV (n := 0) (As := []) X (cm_changes l g hMi hci) hMi.o rfl rfl ⟨by decide, by decide, by decide +kernel⟩ (lw_V q1336 q1338 qs36 q50 q1339) ⟨Nat.le_of_ble_eq_true rfl, Nat.le_of_ble_eq_true rfl⟩ rfl rfl (Nat.le_of_ble_eq_true rfl) ⟨Nat.le_of_ble_eq_true rfl, Nat.le_of_ble_eq_true rfl⟩ dX2_settle_29 (fun v_29 h_29 p_29 => ?_)
          obtain ⟨e_29, σ3, hM3, hE3, h143⟩ := p_29
          subst e_29
          refine zj_if_eq (tgt := 41) X dX2_settle_32 (by decide) (fun c_32 => ?_) (fun c_32 => ?_)
          · have e_32 := zb_0.mp c_32
            refine zj_iload_n X dX2_settle_41 rfl ?_
            exact zj_iret X hQ (zs_of (by rw [spSettle, if_pos e_12, cN_j (by omega)]) ⟨zi_c (by
    obtain ⟨q1, q2⟩ := h3
    have e5 : r - i = (r - (i + 1)) + 1 := by omega
    rw [e5, mSet, if_neg (by simp [e_32])] at q1
    rw [← q1]; rfl), _, hM3, (by
    obtain ⟨q1, q2⟩ := h3
    have e5 : r - i = (r - (i + 1)) + 1 := by omega
    rw [e5, mSet, if_neg (by simp [e_32])] at q2
    exact hE3.tr q2), h143.trans h4⟩) rfl (Nat.le_of_ble_eq_true rfl) (Nat.le_of_ble_eq_true rfl) dX2_settle_42
          · have e_32 := zb_n.mp c_32
            refine zj_iinc X dX2_settle_35 rfl (zi_1 i) (by decide) ?_
            refine zj_goto (tgt := 23) X dX2_settle_38 (by decide) ?_
            exact zj_lo (ih_23 (i + 1) _ _ hM3 (mCal_c hE3.sym (mCal_rd hci)) (h143.trans h4) (by omega) (by omega) (by
              obtain ⟨q1, q2⟩ := h3
              have e5 : r - i = (r - (i + 1)) + 1 := by omega
              rw [e5, mSet, if_pos e_32] at q1 q2
              obtain ⟨q3, q4⟩ := mSet_c (n := n) (r - (i + 1)) hE3
              exact ⟨by rw [q3, ← q1]; simp only []; omega, q4.tr q2⟩)) ⟨rfl, rfl, rfl, trivial⟩
    exact zj_lo (L_23 (r + 1) 0 _ _ hM (mCal_c hE.sym hc) h14 (Nat.zero_le _) (by omega) (by rw [Nat.sub_zero, Nat.zero_add]; exact mSet_c r hE)) ⟨rfl, rfl, rfl, trivial⟩
  · have e_12 : inB 1 20 x = false := zb_0.mp c_12
    refine zj_aload_n X dX2_settle_15 rfl ?_
    refine zj_iconst (v := 1) X dX2_settle_16 rfl ?_
    refine zj_callV (n := 1) (As := [_]) X (cm_fail l g hM _) hM.o rfl rfl ⟨by decide, by decide, by decide +kernel⟩ (lw_V q1233 q1235 qs24 q50 q1236) ⟨Nat.le_of_ble_eq_true rfl, Nat.le_of_ble_eq_true rfl⟩ rfl rfl (Nat.le_of_ble_eq_true rfl) ⟨Nat.le_of_ble_eq_true rfl, Nat.le_of_ble_eq_true rfl⟩ dX2_settle_17 (fun v_17 h_17 p_17 => ?_)
    obtain ⟨e_17, σ2, hM2, hE2, h142⟩ := p_17
    subst e_17
    have hE2 := hE2.tr hE
    exact zj_iret X hQ (zs_of (by simp [spSettle, e_12]) ⟨rfl, σ2, hM2, hE2, h142⟩) rfl (Nat.le_of_ble_eq_true rfl) (Nat.le_of_ble_eq_true rfl) dX2_settle_20

