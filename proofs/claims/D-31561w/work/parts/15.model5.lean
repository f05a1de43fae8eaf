set_option maxRecDepth 100000
/-! THE REFERENCE: more of its public methods -/
theorem inB_t {a b : Nat} {x : Int32} (ha : a < 65536) (hb : b < 65536) (h : inB (nI a) (nI b) x = true) : ∃ r, a ≤ r ∧ r ≤ b ∧ x = nI r := by
  obtain ⟨h1, h2⟩ := of_decide_eq_true h
  have h0 : ¬ x < 0 := fun z => by
    have h3 := Int32.lt_of_lt_of_le z (nI_pos' (n := a) (by omega))
    exact absurd (Int32.lt_of_lt_of_le h3 h1) (Int32.lt_irrefl)
  obtain ⟨r, hr, rfl⟩ := nI_of h0
  exact ⟨r, (nI_leI (by omega) hr).mp h1, (nI_leI hr (by omega)).mp h2, rfl⟩

set_option maxHeartbeats 4000000 in
theorem cm_addPerson (l : Launch) (g : zz_G) {h0 h : zz_H} {m : Nat} {ad : Nat → Nat} {n : Nat} {σ : Nat → Nat → Int32} (hM : MR h0 h m ad n σ) (x : Int32) : zz_C l g yX2_addPerson cX2_addPerson 2 (some .int) (zz_rm 2 42 0 0) [.ref m, .int x] h (zs h0 m ad (spAdd n σ x)) := by
  refine zz_C.of (by decide) (Nat.le_of_ble_eq_true rfl) (fun pP eE sS mM aA bB tT cC X Q hQ => ?_)
  have hn := hM.le
  refine zj_aload_n X dX2_addPerson_0 rfl ?_
  refine zj_iload_n X dX2_addPerson_1 rfl ?_
  refine zj_iconst (v := 0) X dX2_addPerson_2 rfl ?_
  refine zj_iconst (v := 5) X dX2_addPerson_3 rfl ?_
  refine zj_callSp (n := 3) (As := [_, _, _]) X (cm_isBetween l g _ _ _ _) ⟨by decide, by decide, by decide +kernel⟩ (lw_S q1211 q1212 q50 q1213) ⟨Nat.le_of_ble_eq_true rfl, Nat.le_of_ble_eq_true rfl⟩ rfl rfl (Nat.le_of_ble_eq_true rfl) ⟨Nat.le_of_ble_eq_true rfl, Nat.le_of_ble_eq_true rfl⟩ dX2_addPerson_4 ?_
  refine zj_if_ne (tgt := 14) X dX2_addPerson_7 (by decide) (fun c_7 => ?_) (fun c_7 => ?_)
  · have e_7 : inB 0 5 x = true := zb_n.mp c_7
    refine zj_aload_n X dX2_addPerson_14 rfl ?_
    refine zj_get X in_X2 rfl 0 (by decide) q1141 (fun _ h => h) hM.o rfl (Or.inl (by decide)) dX2_addPerson_15 ?_
    refine zj_bipush (v := 16) X dX2_addPerson_18 (by decide) ?_
    refine zj_icmp_ne (tgt := 27) X dX2_addPerson_20 (by decide) (fun c_20 => ?_) (fun c_20 => ?_)
    · have e_20 : ¬ n = 16 := fun z => c_20 (by rw [z]; rfl)
      refine zj_iconst (v := 0) X dX2_addPerson_27 rfl ?_
      refine zm_th X hM q1155 (fun _ h => h) dX2_addPerson_28 (fun h9 σ1 hM hE h14 => ?_)
      refine zj_aload_n X dX2_addPerson_31 rfl ?_
      refine zj_get X in_X2 rfl 14 (by decide) q1155 (fun _ h => h) hM.o rfl (Or.inl (by decide)) dX2_addPerson_32 ?_
      refine zj_if_le (tgt := 40) X dX2_addPerson_35 (by decide) (fun c_35 => ?_) (fun c_35 => absurd (show σ1 14 0 ≤ 0 by rw [h14]; decide) c_35)
      refine zj_aload_n X dX2_addPerson_40 rfl ?_
      refine zj_get X in_X2 rfl 1 (by decide) q1142 (fun _ h => h) hM.o rfl (Or.inl (by decide)) dX2_addPerson_41 ?_
      refine zj_aload_n X dX2_addPerson_44 rfl ?_
      refine zj_get X in_X2 rfl 0 (by decide) q1141 (fun _ h => h) hM.o rfl (Or.inl (by decide)) dX2_addPerson_45 ?_
      refine zj_iload_n X dX2_addPerson_48 rfl ?_
      refine zm_ia X hM 1 rfl (rfl) (by show _ < 16; omega) dX2_addPerson_49 (fun h9 hM => ?_)
      refine zj_aload_n X dX2_addPerson_50 rfl ?_
      refine zj_get X in_X2 rfl 3 (by decide) q1144 (fun _ h => h) hM.o rfl (Or.inl (by decide)) dX2_addPerson_51 ?_
      refine zj_aload_n X dX2_addPerson_54 rfl ?_
      refine zj_get X in_X2 rfl 0 (by decide) q1141 (fun _ h => h) hM.o rfl (Or.inl (by decide)) dX2_addPerson_55 ?_
      refine zj_iconst (v := 5) X dX2_addPerson_58 rfl ?_
      refine zm_ia X hM 3 rfl (rfl) (by show _ < 16; omega) dX2_addPerson_59 (fun h9 hM => ?_)
      refine zj_aload_n X dX2_addPerson_60 rfl ?_
      refine zj_dup X dX2_addPerson_61 rfl ?_
      refine zj_get X in_X2 rfl 0 (by decide) q1141 (fun _ h => h) hM.o rfl (Or.inl (by decide)) dX2_addPerson_62 ?_
      refine zj_iconst (v := 1) X dX2_addPerson_65 rfl ?_
      refine zj_iadd X dX2_addPerson_66 ?_
      refine zj_top (x' := nI (n + 1)) (nI_1 n) ?_
      refine zj_put X in_X2 tyX2 tyX2_ok nmX2 rfl 0 (by decide) q1141 (fun _ h => h) rfl hM.o rfl rfl (Nat.le_of_ble_eq_true rfl) (Or.inl (by decide)) dX2_addPerson_67 ?_
      have hM := hM.un (by omega)
      refine zj_aload_n X dX2_addPerson_70 rfl ?_
      refine zj_get X in_X2 rfl 0 (by decide) q1141 (fun _ h => h) hM.o rfl (Or.inl (by decide)) dX2_addPerson_71 ?_
      refine zj_iconst (v := 1) X dX2_addPerson_74 rfl ?_
      refine zj_isub X dX2_addPerson_75 ?_
      refine zj_top (x' := nI n) (nI_pred n) ?_
      exact zj_iret X hQ (zs_of (by simp [spAdd, e_7, e_20] <;> rfl) ⟨rfl, _, hM, by rw [hE 1 (by decide) (by decide), show zk σ1 1 (upd (σ 1) n x) 3 = σ 3 from hE 3 (by decide) (by decide)]; exact (hE.zku 1 _).zku 3 _, h14⟩) rfl (Nat.le_of_ble_eq_true rfl) (Nat.le_of_ble_eq_true rfl) dX2_addPerson_76
    · have e_20 : n = 16 := (nI_eq (by omega) (by decide)).mp c_20
      refine zj_iconst (v := 2) X dX2_addPerson_23 rfl ?_
      refine zj_goto (tgt := 28) X dX2_addPerson_24 (by decide) ?_
      refine zm_th X hM q1155 (fun _ h => h) dX2_addPerson_28 (fun h9 σ1 hM hE h14 => ?_)
      refine zj_aload_n X dX2_addPerson_31 rfl ?_
      refine zj_get X in_X2 rfl 14 (by decide) q1155 (fun _ h => h) hM.o rfl (Or.inl (by decide)) dX2_addPerson_32 ?_
      refine zj_if_le (tgt := 40) X dX2_addPerson_35 (by decide) (fun c_35 => absurd c_35 (by rw [h14]; decide)) (fun c_35 => ?_)
      refine zj_iconst (v := 0) X dX2_addPerson_38 rfl ?_
      exact zj_iret X hQ (zs_of (by rw [spAdd, if_pos e_7, if_pos e_20]) ⟨rfl, σ1, hM, hE, h14⟩) rfl (Nat.le_of_ble_eq_true rfl) (Nat.le_of_ble_eq_true rfl) dX2_addPerson_39
  · have e_7 : inB 0 5 x = false := zb_0.mp c_7
    refine zj_iconst (v := 1) X dX2_addPerson_10 rfl ?_
    refine zj_goto (tgt := 28) X dX2_addPerson_11 (by decide) ?_
    refine zm_th X hM q1155 (fun _ h => h) dX2_addPerson_28 (fun h9 σ1 hM hE h14 => ?_)
    refine zj_aload_n X dX2_addPerson_31 rfl ?_
    refine zj_get X in_X2 rfl 14 (by decide) q1155 (fun _ h => h) hM.o rfl (Or.inl (by decide)) dX2_addPerson_32 ?_
    refine zj_if_le (tgt := 40) X dX2_addPerson_35 (by decide) (fun c_35 => absurd c_35 (by rw [h14]; decide)) (fun c_35 => ?_)
    refine zj_iconst (v := 0) X dX2_addPerson_38 rfl ?_
    exact zj_iret X hQ (zs_of (by rw [spAdd, if_neg (by simp [e_7])]) ⟨rfl, σ1, hM, hE, h14⟩) rfl (Nat.le_of_ble_eq_true rfl) (Nat.le_of_ble_eq_true rfl) dX2_addPerson_39

set_option maxHeartbeats 4000000 in
theorem cm_handIn (l : Launch) (g : zz_G) {h0 h : zz_H} {m : Nat} {ad : Nat → Nat} {n : Nat} {σ : Nat → Nat → Int32} (hM : MR h0 h m ad n σ) (x : Int32) : zz_C l g yX2_handIn cX2_handIn 2 (some .int) (zz_rm 3 63 0 0) [.ref m, .int x] h (zs h0 m ad (spHand n σ x)) := by
  refine zz_C.of (by decide) (Nat.le_of_ble_eq_true rfl) (fun pP eE sS mM aA bB tT cC X Q hQ => ?_)
  have hn := hM.le
  refine zj_aload_n X dX2_handIn_0 rfl ?_
  refine zj_aload_n X dX2_handIn_1 rfl ?_
  refine zj_iload_n X dX2_handIn_2 rfl ?_
  refine zj_callVp (n := 1) (As := [_]) X (cm_isPerson l g hM _) hM.o rfl rfl ⟨by decide, by decide, by decide +kernel⟩ (lw_V q1218 q1220 qs22 q50 q1221) ⟨Nat.le_of_ble_eq_true rfl, Nat.le_of_ble_eq_true rfl⟩ rfl rfl (Nat.le_of_ble_eq_true rfl) ⟨Nat.le_of_ble_eq_true rfl, Nat.le_of_ble_eq_true rfl⟩ dX2_handIn_3 ?_
  refine zj_if_ne (tgt := 13) X dX2_handIn_6 (by decide) (fun c_6 => ?_) (fun c_6 => ?_)
  · have e_6 := zb_n.mp c_6
    obtain ⟨j, hj, rfl⟩ := isPB_t (by omega) e_6
    refine zj_aload_n X dX2_handIn_13 rfl ?_
    refine zj_get X in_X2 rfl 2 (by decide) q1143 (fun _ h => h) hM.o rfl (Or.inl (by decide)) dX2_handIn_14 ?_
    refine zj_iload_n X dX2_handIn_17 rfl ?_
    refine zj_zald X (hM.arr 2 rfl) (rfl) (by show _ < 16; omega) (by omega) dX2_handIn_18 ?_
    refine zj_if_eq (tgt := 26) X dX2_handIn_19 (by decide) (fun c_19 => ?_) (fun c_19 => ?_)
    · refine zj_iconst (v := 0) X dX2_handIn_26 rfl ?_
      refine zm_th X hM q1155 (fun _ h => h) dX2_handIn_27 (fun h9 σ1 hM hE h14 => ?_)
      refine zj_aload_n X dX2_handIn_30 rfl ?_
      refine zj_get X in_X2 rfl 14 (by decide) q1155 (fun _ h => h) hM.o rfl (Or.inl (by decide)) dX2_handIn_31 ?_
      refine zj_if_le (tgt := 39) X dX2_handIn_34 (by decide) (fun c_34 => ?_) (fun c_34 => absurd (show σ1 14 0 ≤ 0 by rw [h14]; decide) c_34)
      refine zj_aload_n X dX2_handIn_39 rfl ?_
      refine zj_get X in_X2 rfl 2 (by decide) q1143 (fun _ h => h) hM.o rfl (Or.inl (by decide)) dX2_handIn_40 ?_
      refine zj_iload_n X dX2_handIn_43 rfl ?_
      refine zj_iconst (v := 1) X dX2_handIn_44 rfl ?_
      refine zm_za X hM 2 rfl (rfl) (by show _ < 16; omega) (nar_1) dX2_handIn_45 (fun h9 hM => ?_)
      refine zj_aload_n X dX2_handIn_46 rfl ?_
      refine zj_callVp (n := 0) (As := []) X (cm_countWorks l g hM) hM.o rfl rfl ⟨by decide, by decide, by decide +kernel⟩ (lw_V q1222 q1224 qs23 q50 q1225) ⟨Nat.le_of_ble_eq_true rfl, Nat.le_of_ble_eq_true rfl⟩ rfl rfl (Nat.le_of_ble_eq_true rfl) ⟨Nat.le_of_ble_eq_true rfl, Nat.le_of_ble_eq_true rfl⟩ dX2_handIn_47 ?_
      exact zj_iret X hQ (zs_of (by rw [spHand, if_pos e_6, cN_j (show j < 65536 by omega), if_pos c_19]) ⟨zi_c (show _ = mWorks n (stHand σ j) from mWorks_c (hE.st (by decide) (by decide) rfl)), _, hM, show mEq _ (stHand σ j) from hE.st (by decide) (by decide) rfl, h14⟩) rfl (Nat.le_of_ble_eq_true rfl) (Nat.le_of_ble_eq_true rfl) dX2_handIn_50
    · refine zj_iconst (v := 2) X dX2_handIn_22 rfl ?_
      refine zj_goto (tgt := 27) X dX2_handIn_23 (by decide) ?_
      refine zm_th X hM q1155 (fun _ h => h) dX2_handIn_27 (fun h9 σ1 hM hE h14 => ?_)
      refine zj_aload_n X dX2_handIn_30 rfl ?_
      refine zj_get X in_X2 rfl 14 (by decide) q1155 (fun _ h => h) hM.o rfl (Or.inl (by decide)) dX2_handIn_31 ?_
      refine zj_if_le (tgt := 39) X dX2_handIn_34 (by decide) (fun c_34 => absurd c_34 (by rw [h14]; decide)) (fun c_34 => ?_)
      refine zj_iconst (v := 0) X dX2_handIn_37 rfl ?_
      exact zj_iret X hQ (zs_of (by rw [spHand, if_pos e_6, cN_j (show j < 65536 by omega), if_neg c_19]) ⟨rfl, σ1, hM, hE, h14⟩) rfl (Nat.le_of_ble_eq_true rfl) (Nat.le_of_ble_eq_true rfl) dX2_handIn_38
  · have e_6 := zb_0.mp c_6
    refine zj_iconst (v := 1) X dX2_handIn_9 rfl ?_
    refine zj_goto (tgt := 27) X dX2_handIn_10 (by decide) ?_
    refine zm_th X hM q1155 (fun _ h => h) dX2_handIn_27 (fun h9 σ1 hM hE h14 => ?_)
    refine zj_aload_n X dX2_handIn_30 rfl ?_
    refine zj_get X in_X2 rfl 14 (by decide) q1155 (fun _ h => h) hM.o rfl (Or.inl (by decide)) dX2_handIn_31 ?_
    refine zj_if_le (tgt := 39) X dX2_handIn_34 (by decide) (fun c_34 => absurd c_34 (by rw [h14]; decide)) (fun c_34 => ?_)
    refine zj_iconst (v := 0) X dX2_handIn_37 rfl ?_
    exact zj_iret X hQ (zs_of (by rw [spHand, if_neg (by simp [e_6])]) ⟨rfl, σ1, hM, hE, h14⟩) rfl (Nat.le_of_ble_eq_true rfl) (Nat.le_of_ble_eq_true rfl) dX2_handIn_38

set_option maxHeartbeats 4000000 in
theorem cm_markOf (l : Launch) (g : zz_G) {h0 h : zz_H} {m : Nat} {ad : Nat → Nat} {n : Nat} {σ : Nat → Nat → Int32} (hM : MR h0 h m ad n σ) (x : Int32) : zz_C l g yX2_markOf cX2_markOf 2 (some .int) (zz_rm 6 142 0 0) [.ref m, .int x] h (zs h0 m ad (spMkOf n σ x)) := by
  refine zz_C.of (by decide) (Nat.le_of_ble_eq_true rfl) (fun pP eE sS mM aA bB tT cC X Q hQ => ?_)
  have hn := hM.le
  refine zj_aload_n X dX2_markOf_0 rfl ?_
  refine zj_aload_n X dX2_markOf_1 rfl ?_
  refine zj_iload_n X dX2_markOf_2 rfl ?_
  refine zj_callVp (n := 1) (As := [_]) X (cm_isWork l g hM _) hM.o rfl rfl ⟨by decide, by decide, by decide +kernel⟩ (lw_V q1287 q1289 qs31 q50 q1290) ⟨Nat.le_of_ble_eq_true rfl, Nat.le_of_ble_eq_true rfl⟩ rfl rfl (Nat.le_of_ble_eq_true rfl) ⟨Nat.le_of_ble_eq_true rfl, Nat.le_of_ble_eq_true rfl⟩ dX2_markOf_3 ?_
  refine zj_if_ne (tgt := 13) X dX2_markOf_6 (by decide) (fun c_6 => ?_) (fun c_6 => ?_)
  · have e_6 := zb_n.mp c_6
    obtain ⟨j, hj, rfl, wj⟩ := isWB_t (by omega) e_6
    refine zj_aload_n X dX2_markOf_13 rfl ?_
    refine zj_iload_n X dX2_markOf_14 rfl ?_
    refine zj_callVp (n := 1) (As := [_]) X (cm_mark l g hM j hj) hM.o rfl rfl ⟨by decide, by decide, by decide +kernel⟩ (lw_V q1340 q1342 qs37 q50 q1343) ⟨Nat.le_of_ble_eq_true rfl, Nat.le_of_ble_eq_true rfl⟩ rfl rfl (Nat.le_of_ble_eq_true rfl) ⟨Nat.le_of_ble_eq_true rfl, Nat.le_of_ble_eq_true rfl⟩ dX2_markOf_15 ?_
    refine zj_iconst (v := (-1)) X dX2_markOf_18 rfl ?_
    refine zj_icmp_ne (tgt := 26) X dX2_markOf_19 (by decide) (fun c_19 => ?_) (fun c_19 => ?_)
    · refine zj_iconst (v := 0) X dX2_markOf_26 rfl ?_
      refine zm_th X hM q1155 (fun _ h => h) dX2_markOf_27 (fun h9 σ1 hM hE h14 => ?_)
      refine zj_aload_n X dX2_markOf_30 rfl ?_
      refine zj_get X in_X2 rfl 14 (by decide) q1155 (fun _ h => h) hM.o rfl (Or.inl (by decide)) dX2_markOf_31 ?_
      refine zj_if_le (tgt := 41) X dX2_markOf_34 (by decide) (fun c_34 => ?_) (fun c_34 => absurd (show σ1 14 0 ≤ 0 by rw [h14]; decide) c_34)
      refine zj_aload_n X dX2_markOf_41 rfl ?_
      refine zj_iload_n X dX2_markOf_42 rfl ?_
      refine zj_callVp (n := 1) (As := [_]) X (cm_mark l g hM j hj) hM.o rfl rfl ⟨by decide, by decide, by decide +kernel⟩ (lw_V q1340 q1342 qs37 q50 q1343) ⟨Nat.le_of_ble_eq_true rfl, Nat.le_of_ble_eq_true rfl⟩ rfl rfl (Nat.le_of_ble_eq_true rfl) ⟨Nat.le_of_ble_eq_true rfl, Nat.le_of_ble_eq_true rfl⟩ dX2_markOf_43 ?_
      exact zj_iret X hQ (zs_of (by rw [spMkOf, if_pos e_6, cN_j (show j < 65536 by omega), if_neg c_19]) ⟨zi_c (mMark_c hE), σ1, hM, hE, h14⟩) rfl (Nat.le_of_ble_eq_true rfl) (Nat.le_of_ble_eq_true rfl) dX2_markOf_46
    · refine zj_iconst (v := 2) X dX2_markOf_22 rfl ?_
      refine zj_goto (tgt := 27) X dX2_markOf_23 (by decide) ?_
      refine zm_th X hM q1155 (fun _ h => h) dX2_markOf_27 (fun h9 σ1 hM hE h14 => ?_)
      refine zj_aload_n X dX2_markOf_30 rfl ?_
      refine zj_get X in_X2 rfl 14 (by decide) q1155 (fun _ h => h) hM.o rfl (Or.inl (by decide)) dX2_markOf_31 ?_
      refine zj_if_le (tgt := 41) X dX2_markOf_34 (by decide) (fun c_34 => absurd c_34 (by rw [h14]; decide)) (fun c_34 => ?_)
      refine zj_iconst (v := 0) X dX2_markOf_37 rfl ?_
      refine zj_goto (tgt := 46) X dX2_markOf_38 (by decide) ?_
      exact zj_iret X hQ (zs_of (by rw [spMkOf, if_pos e_6, cN_j (show j < 65536 by omega), if_pos c_19]) ⟨rfl, σ1, hM, hE, h14⟩) rfl (Nat.le_of_ble_eq_true rfl) (Nat.le_of_ble_eq_true rfl) dX2_markOf_46
  · have e_6 := zb_0.mp c_6
    refine zj_iconst (v := 1) X dX2_markOf_9 rfl ?_
    refine zj_goto (tgt := 27) X dX2_markOf_10 (by decide) ?_
    refine zm_th X hM q1155 (fun _ h => h) dX2_markOf_27 (fun h9 σ1 hM hE h14 => ?_)
    refine zj_aload_n X dX2_markOf_30 rfl ?_
    refine zj_get X in_X2 rfl 14 (by decide) q1155 (fun _ h => h) hM.o rfl (Or.inl (by decide)) dX2_markOf_31 ?_
    refine zj_if_le (tgt := 41) X dX2_markOf_34 (by decide) (fun c_34 => absurd c_34 (by rw [h14]; decide)) (fun c_34 => ?_)
    refine zj_iconst (v := 0) X dX2_markOf_37 rfl ?_
    refine zj_goto (tgt := 46) X dX2_markOf_38 (by decide) ?_
    exact zj_iret X hQ (zs_of (by rw [spMkOf, if_neg (by simp [e_6])]) ⟨rfl, σ1, hM, hE, h14⟩) rfl (Nat.le_of_ble_eq_true rfl) (Nat.le_of_ble_eq_true rfl) dX2_markOf_46

def mPlace (n : Nat) (σ : Nat → Nat → Int32) (w : Nat) : Nat → Int32
  | 0 => 1
  | k + 1 => mPlace n σ w k + (if mMark n σ w < mMark n σ k then 1 else 0)
theorem mPlace_c {n : Nat} {σ σ' : Nat → Nat → Int32} (h : mEq σ σ') {w : Nat} (k : Nat) : mPlace n σ w k = mPlace n σ' w k := by
  induction k with
  | zero => rfl
  | succ k ih => simp only [mPlace, ih, mMark_c h]
def spPlace (n : Nat) (σ : Nat → Nat → Int32) (x : Int32) : zS := if isWB n σ x = true then (if mMark n σ (cN x) = -1 then (2, 0, n, σ) else (0, mPlace n σ (cN x) n, n, σ)) else (1, 0, n, σ)

set_option maxHeartbeats 4000000 in
theorem cm_placeOf (l : Launch) (g : zz_G) {h0 h : zz_H} {m : Nat} {ad : Nat → Nat} {n : Nat} {σ : Nat → Nat → Int32} (hM : MR h0 h m ad n σ) (x : Int32) : zz_C l g yX2_placeOf cX2_placeOf 4 (some .int) (zz_rm 6 142 0 0) [.ref m, .int x] h (zs h0 m ad (spPlace n σ x)) := by
  refine zz_C.of (by decide) (Nat.le_of_ble_eq_true rfl) (fun pP eE sS mM aA bB tT cC X Q hQ => ?_)
  have hn := hM.le
  refine zj_aload_n X dX2_placeOf_0 rfl ?_
  refine zj_aload_n X dX2_placeOf_1 rfl ?_
  refine zj_iload_n X dX2_placeOf_2 rfl ?_
  refine zj_callVp (n := 1) (As := [_]) X (cm_isWork l g hM _) hM.o rfl rfl ⟨by decide, by decide, by decide +kernel⟩ (lw_V q1287 q1289 qs31 q50 q1290) ⟨Nat.le_of_ble_eq_true rfl, Nat.le_of_ble_eq_true rfl⟩ rfl rfl (Nat.le_of_ble_eq_true rfl) ⟨Nat.le_of_ble_eq_true rfl, Nat.le_of_ble_eq_true rfl⟩ dX2_placeOf_3 ?_
  refine zj_if_ne (tgt := 13) X dX2_placeOf_6 (by decide) (fun c_6 => ?_) (fun c_6 => ?_)
  · have e_6 := zb_n.mp c_6
    obtain ⟨j, hj, rfl, wj⟩ := isWB_t (by omega) e_6
    refine zj_aload_n X dX2_placeOf_13 rfl ?_
    refine zj_iload_n X dX2_placeOf_14 rfl ?_
    refine zj_callVp (n := 1) (As := [_]) X (cm_mark l g hM j hj) hM.o rfl rfl ⟨by decide, by decide, by decide +kernel⟩ (lw_V q1340 q1342 qs37 q50 q1343) ⟨Nat.le_of_ble_eq_true rfl, Nat.le_of_ble_eq_true rfl⟩ rfl rfl (Nat.le_of_ble_eq_true rfl) ⟨Nat.le_of_ble_eq_true rfl, Nat.le_of_ble_eq_true rfl⟩ dX2_placeOf_15 ?_
    refine zj_iconst (v := (-1)) X dX2_placeOf_18 rfl ?_
    refine zj_icmp_ne (tgt := 26) X dX2_placeOf_19 (by decide) (fun c_19 => ?_) (fun c_19 => ?_)
    · refine zj_iconst (v := 0) X dX2_placeOf_26 rfl ?_
      refine zm_th X hM q1155 (fun _ h => h) dX2_placeOf_27 (fun h9 σ1 hM hE h14 => ?_)
      refine zj_iconst (v := 1) X dX2_placeOf_30 rfl ?_
      refine zj_istore_n X dX2_placeOf_31 (by decide) ?_
      refine zj_iconst (v := 0) X dX2_placeOf_32 rfl ?_
      refine zj_istore_n X dX2_placeOf_33 (by decide) ?_
      have L_34 : ∀ k_34 : Nat, ∀ (i : Nat), i ≤ n → n < i + k_34 → zz_J pP l eE (zz_rm 6 142 0 0) sS mM aA bB tT cC g 4 Q h9 0 0 34 [(0, .ref m), (1, .int (nI j)), (2, .int (mPlace n σ1 j i)), (3, .int (nI i))] [] := by
        intro k_34
        induction k_34 with
        | zero =>
          intro i h1 h2
          omega
        | succ k_34 ih_34 =>
          intro i h1 h2
          refine zj_aload_n X dX2_placeOf_34 rfl ?_
          refine zj_get X in_X2 rfl 14 (by decide) q1155 (fun _ h => h) hM.o rfl (Or.inl (by decide)) dX2_placeOf_35 ?_
          refine zj_if_ne (tgt := 76) X dX2_placeOf_38 (by decide) (fun c_38 => absurd h14 c_38) (fun c_38 => ?_)
          refine zj_iload_n X dX2_placeOf_41 rfl ?_
          refine zj_aload_n X dX2_placeOf_42 rfl ?_
          refine zj_get X in_X2 rfl 0 (by decide) q1141 (fun _ h => h) hM.o rfl (Or.inl (by decide)) dX2_placeOf_43 ?_
          refine zj_icmp_ge (tgt := 76) X dX2_placeOf_46 (by decide) (fun c_46 => ?_) (fun c_46 => ?_)
          · have e_46 := zi_ge h1 (by omega) c_46
            refine zj_aload_n X dX2_placeOf_76 rfl ?_
            refine zj_get X in_X2 rfl 14 (by decide) q1155 (fun _ h => h) hM.o rfl (Or.inl (by decide)) dX2_placeOf_77 ?_
            refine zj_if_le (tgt := 87) X dX2_placeOf_80 (by decide) (fun c_80 => ?_) (fun c_80 => absurd (show σ1 14 0 ≤ 0 by rw [h14]; decide) c_80)
            refine zj_iload_n X dX2_placeOf_87 rfl ?_
            exact zj_iret X hQ (zs_of (by rw [spPlace, if_pos e_6, cN_j (show j < 65536 by omega), if_neg c_19]) ⟨zi_c (by rw [e_46, mPlace_c hE]), σ1, hM, hE, h14⟩) rfl (Nat.le_of_ble_eq_true rfl) (Nat.le_of_ble_eq_true rfl) dX2_placeOf_88
          · have e_46 := zi_lt h1 (by omega) c_46
            refine zj_iload_n X dX2_placeOf_49 rfl ?_
            refine zj_aload_n X dX2_placeOf_50 rfl ?_
            refine zj_iload_n X dX2_placeOf_51 rfl ?_
            refine zj_callVp (n := 1) (As := [_]) X (cm_mark l g hM i e_46) hM.o rfl rfl ⟨by decide, by decide, by decide +kernel⟩ (lw_V q1340 q1342 qs37 q50 q1343) ⟨Nat.le_of_ble_eq_true rfl, Nat.le_of_ble_eq_true rfl⟩ rfl rfl (Nat.le_of_ble_eq_true rfl) ⟨Nat.le_of_ble_eq_true rfl, Nat.le_of_ble_eq_true rfl⟩ dX2_placeOf_52 ?_
            refine zj_aload_n X dX2_placeOf_55 rfl ?_
            refine zj_iload_n X dX2_placeOf_56 rfl ?_
            refine zj_callVp (n := 1) (As := [_]) X (cm_mark l g hM j hj) hM.o rfl rfl ⟨by decide, by decide, by decide +kernel⟩ (lw_V q1340 q1342 qs37 q50 q1343) ⟨Nat.le_of_ble_eq_true rfl, Nat.le_of_ble_eq_true rfl⟩ rfl rfl (Nat.le_of_ble_eq_true rfl) ⟨Nat.le_of_ble_eq_true rfl, Nat.le_of_ble_eq_true rfl⟩ dX2_placeOf_57 ?_
            refine zj_icmp_le (tgt := 67) X dX2_placeOf_60 (by decide) (fun c_60 => ?_) (fun c_60 => ?_)
            · have e_60 := Int32.not_lt.mpr c_60
              refine zj_iconst (v := 0) X dX2_placeOf_67 rfl ?_
              refine zj_iadd X dX2_placeOf_68 ?_
              refine zj_istore_n X dX2_placeOf_69 (by decide) ?_
              refine zj_iinc X dX2_placeOf_70 rfl (zi_1 i) (by decide) ?_
              refine zj_goto (tgt := 34) X dX2_placeOf_73 (by decide) ?_
              exact zj_lo (ih_34 (i + 1) (by omega) (by omega)) ⟨rfl, rfl, zi_c (by simp [mPlace, e_60]), rfl, trivial⟩
            · have e_60 := Int32.not_le.mp c_60
              refine zj_iconst (v := 1) X dX2_placeOf_63 rfl ?_
              refine zj_goto (tgt := 68) X dX2_placeOf_64 (by decide) ?_
              refine zj_iadd X dX2_placeOf_68 ?_
              refine zj_istore_n X dX2_placeOf_69 (by decide) ?_
              refine zj_iinc X dX2_placeOf_70 rfl (zi_1 i) (by decide) ?_
              refine zj_goto (tgt := 34) X dX2_placeOf_73 (by decide) ?_
              exact zj_lo (ih_34 (i + 1) (by omega) (by omega)) ⟨rfl, rfl, zi_c (by simp [mPlace, e_60]), rfl, trivial⟩
      exact zj_lo (L_34 (n + 1) 0 (Nat.zero_le _) (by omega)) ⟨rfl, rfl, rfl, rfl, trivial⟩
    · refine zj_iconst (v := 2) X dX2_placeOf_22 rfl ?_
      refine zj_goto (tgt := 27) X dX2_placeOf_23 (by decide) ?_
      refine zm_th X hM q1155 (fun _ h => h) dX2_placeOf_27 (fun h9 σ1 hM hE h14 => ?_)
      refine zj_iconst (v := 1) X dX2_placeOf_30 rfl ?_
      refine zj_istore_n X dX2_placeOf_31 (by decide) ?_
      refine zj_iconst (v := 0) X dX2_placeOf_32 rfl ?_
      refine zj_istore_n X dX2_placeOf_33 (by decide) ?_
      refine zj_aload_n X dX2_placeOf_34 rfl ?_
      refine zj_get X in_X2 rfl 14 (by decide) q1155 (fun _ h => h) hM.o rfl (Or.inl (by decide)) dX2_placeOf_35 ?_
      refine zj_if_ne (tgt := 76) X dX2_placeOf_38 (by decide) (fun c_38 => ?_) (fun c_38 => absurd (c_38.symm.trans h14) (by decide))
      refine zj_aload_n X dX2_placeOf_76 rfl ?_
      refine zj_get X in_X2 rfl 14 (by decide) q1155 (fun _ h => h) hM.o rfl (Or.inl (by decide)) dX2_placeOf_77 ?_
      refine zj_if_le (tgt := 87) X dX2_placeOf_80 (by decide) (fun c_80 => absurd c_80 (by rw [h14]; decide)) (fun c_80 => ?_)
      refine zj_iconst (v := 0) X dX2_placeOf_83 rfl ?_
      refine zj_goto (tgt := 88) X dX2_placeOf_84 (by decide) ?_
      exact zj_iret X hQ (zs_of (by rw [spPlace, if_pos e_6, cN_j (show j < 65536 by omega), if_pos c_19]) ⟨rfl, σ1, hM, hE, h14⟩) rfl (Nat.le_of_ble_eq_true rfl) (Nat.le_of_ble_eq_true rfl) dX2_placeOf_88
  · have e_6 := zb_0.mp c_6
    refine zj_iconst (v := 1) X dX2_placeOf_9 rfl ?_
    refine zj_goto (tgt := 27) X dX2_placeOf_10 (by decide) ?_
    refine zm_th X hM q1155 (fun _ h => h) dX2_placeOf_27 (fun h9 σ1 hM hE h14 => ?_)
    refine zj_iconst (v := 1) X dX2_placeOf_30 rfl ?_
    refine zj_istore_n X dX2_placeOf_31 (by decide) ?_
    refine zj_iconst (v := 0) X dX2_placeOf_32 rfl ?_
    refine zj_istore_n X dX2_placeOf_33 (by decide) ?_
    refine zj_aload_n X dX2_placeOf_34 rfl ?_
    refine zj_get X in_X2 rfl 14 (by decide) q1155 (fun _ h => h) hM.o rfl (Or.inl (by decide)) dX2_placeOf_35 ?_
    refine zj_if_ne (tgt := 76) X dX2_placeOf_38 (by decide) (fun c_38 => ?_) (fun c_38 => absurd (c_38.symm.trans h14) (by decide))
    refine zj_aload_n X dX2_placeOf_76 rfl ?_
    refine zj_get X in_X2 rfl 14 (by decide) q1155 (fun _ h => h) hM.o rfl (Or.inl (by decide)) dX2_placeOf_77 ?_
    refine zj_if_le (tgt := 87) X dX2_placeOf_80 (by decide) (fun c_80 => absurd c_80 (by rw [h14]; decide)) (fun c_80 => ?_)
    refine zj_iconst (v := 0) X dX2_placeOf_83 rfl ?_
    refine zj_goto (tgt := 88) X dX2_placeOf_84 (by decide) ?_
    exact zj_iret X hQ (zs_of (by rw [spPlace, if_neg (by simp [e_6])]) ⟨rfl, σ1, hM, hE, h14⟩) rfl (Nat.le_of_ble_eq_true rfl) (Nat.le_of_ble_eq_true rfl) dX2_placeOf_88

set_option maxHeartbeats 4000000 in
theorem cm_countsOf (l : Launch) (g : zz_G) {h0 h : zz_H} {m : Nat} {ad : Nat → Nat} {n : Nat} {σ : Nat → Nat → Int32} (hM : MR h0 h m ad n σ) (x z : Int32) : zz_C l g yX2_countsOf cX2_countsOf 3 (some .int) (zz_rm 4 84 0 0) [.ref m, .int x, .int z] h (zs h0 m ad (spCts n σ x z)) := by
  refine zz_C.of (by decide) (Nat.le_of_ble_eq_true rfl) (fun pP eE sS mM aA bB tT cC X Q hQ => ?_)
  have hn := hM.le
  refine zj_aload_n X dX2_countsOf_0 rfl ?_
  refine zj_iconst (v := 0) X dX2_countsOf_1 rfl ?_
  refine zm_th X hM q1155 (fun _ h => h) dX2_countsOf_2 (fun h9 σ1 hM hE h14 => ?_)
  refine zj_aload_n X dX2_countsOf_5 rfl ?_
  refine zj_iload_n X dX2_countsOf_6 rfl ?_
  refine zj_callVp (n := 1) (As := [_]) X (cm_isPerson l g hM _) hM.o rfl rfl ⟨by decide, by decide, by decide +kernel⟩ (lw_V q1218 q1220 qs22 q50 q1221) ⟨Nat.le_of_ble_eq_true rfl, Nat.le_of_ble_eq_true rfl⟩ rfl rfl (Nat.le_of_ble_eq_true rfl) ⟨Nat.le_of_ble_eq_true rfl, Nat.le_of_ble_eq_true rfl⟩ dX2_countsOf_7 ?_
  refine zj_if_eq (tgt := 30) X dX2_countsOf_10 (by decide) (fun c_10 => ?_) (fun c_10 => ?_)
  · have e_10 := zb_0.mp c_10
    refine zj_aload_n X dX2_countsOf_30 rfl ?_
    refine zj_iconst (v := 1) X dX2_countsOf_31 rfl ?_
    refine zj_callV (n := 1) (As := [_]) X (cm_fail l g hM _) hM.o rfl rfl ⟨by decide, by decide, by decide +kernel⟩ (lw_V q1233 q1235 qs24 q50 q1236) ⟨Nat.le_of_ble_eq_true rfl, Nat.le_of_ble_eq_true rfl⟩ rfl rfl (Nat.le_of_ble_eq_true rfl) ⟨Nat.le_of_ble_eq_true rfl, Nat.le_of_ble_eq_true rfl⟩ dX2_countsOf_32 (fun v_32 h_32 p_32 => ?_)
    obtain ⟨e_32, σ2, hM2, hE2, h142⟩ := p_32
    subst e_32
    have hE2 := hE2.tr hE
    exact zj_iret X hQ (zs_of (by rw [spCts, if_neg (by simp [e_10])]) ⟨rfl, σ2, hM2, hE2, h142⟩) rfl (Nat.le_of_ble_eq_true rfl) (Nat.le_of_ble_eq_true rfl) dX2_countsOf_35
  · have e_10 := zb_n.mp c_10
    obtain ⟨j, hj, rfl⟩ := isPB_t (by omega) e_10
    refine zj_aload_n X dX2_countsOf_13 rfl ?_
    refine zj_iload_n X dX2_countsOf_14 rfl ?_
    refine zj_callVp (n := 1) (As := [_]) X (cm_isWork l g hM _) hM.o rfl rfl ⟨by decide, by decide, by decide +kernel⟩ (lw_V q1287 q1289 qs31 q50 q1290) ⟨Nat.le_of_ble_eq_true rfl, Nat.le_of_ble_eq_true rfl⟩ rfl rfl (Nat.le_of_ble_eq_true rfl) ⟨Nat.le_of_ble_eq_true rfl, Nat.le_of_ble_eq_true rfl⟩ dX2_countsOf_15 ?_
    refine zj_if_eq (tgt := 30) X dX2_countsOf_18 (by decide) (fun c_18 => ?_) (fun c_18 => ?_)
    · have e_18 := zb_0.mp c_18
      rw [isWB_c hE] at e_18
      refine zj_aload_n X dX2_countsOf_30 rfl ?_
      refine zj_iconst (v := 1) X dX2_countsOf_31 rfl ?_
      refine zj_callV (n := 1) (As := [_]) X (cm_fail l g hM _) hM.o rfl rfl ⟨by decide, by decide, by decide +kernel⟩ (lw_V q1233 q1235 qs24 q50 q1236) ⟨Nat.le_of_ble_eq_true rfl, Nat.le_of_ble_eq_true rfl⟩ rfl rfl (Nat.le_of_ble_eq_true rfl) ⟨Nat.le_of_ble_eq_true rfl, Nat.le_of_ble_eq_true rfl⟩ dX2_countsOf_32 (fun v_32 h_32 p_32 => ?_)
      obtain ⟨e_32, σ2, hM2, hE2, h142⟩ := p_32
      subst e_32
      have hE2 := hE2.tr hE
      exact zj_iret X hQ (zs_of (by rw [spCts, if_neg (by simp [e_18])]) ⟨rfl, σ2, hM2, hE2, h142⟩) rfl (Nat.le_of_ble_eq_true rfl) (Nat.le_of_ble_eq_true rfl) dX2_countsOf_35
    · have e_18 := zb_n.mp c_18
      rw [isWB_c hE] at e_18
      obtain ⟨w, hw, rfl, ww⟩ := isWB_t (by omega) e_18
      refine zj_aload_n X dX2_countsOf_21 rfl ?_
      refine zj_iload_n X dX2_countsOf_22 rfl ?_
      refine zj_iload_n X dX2_countsOf_23 rfl ?_
      refine zj_callVp (n := 2) (As := [_, _]) X (cm_counts l g hM j w hj hw) hM.o rfl rfl ⟨by decide, by decide, by decide +kernel⟩ (lw_V q1352 q1354 qs40 q50 q1355) ⟨Nat.le_of_ble_eq_true rfl, Nat.le_of_ble_eq_true rfl⟩ rfl rfl (Nat.le_of_ble_eq_true rfl) ⟨Nat.le_of_ble_eq_true rfl, Nat.le_of_ble_eq_true rfl⟩ dX2_countsOf_24 ?_
      refine zj_goto (tgt := 35) X dX2_countsOf_27 (by decide) ?_
      exact zj_iret X hQ (zs_of (by simp [spCts, e_10, e_18] <;> rfl) ⟨zi_c (by rw [cN_j (show j < 65536 by omega), cN_j (show w < 65536 by omega)]; exact mCounts_c hE), σ1, hM, hE, h14⟩) rfl (Nat.le_of_ble_eq_true rfl) (Nat.le_of_ble_eq_true rfl) dX2_countsOf_35

set_option maxHeartbeats 4000000 in
theorem cm_missing (l : Launch) (g : zz_G) {h0 h : zz_H} {m : Nat} {ad : Nat → Nat} {n : Nat} {σ : Nat → Nat → Int32} (hM : MR h0 h m ad n σ) (x : Int32) : zz_C l g yX2_missing cX2_missing 4 (some .int) (zz_rm 3 64 0 0) [.ref m, .int x] h (zs h0 m ad (spMiss n σ x)) := by
  refine zz_C.of (by decide) (Nat.le_of_ble_eq_true rfl) (fun pP eE sS mM aA bB tT cC X Q hQ => ?_)
  have hn := hM.le
  refine zj_aload_n X dX2_missing_0 rfl ?_
  refine zj_iconst (v := 0) X dX2_missing_1 rfl ?_
  refine zm_th X hM q1155 (fun _ h => h) dX2_missing_2 (fun h9 σ1 hM hE h14 => ?_)
  refine zj_iload_n X dX2_missing_5 rfl ?_
  refine zj_callSp (n := 1) (As := [_]) X (cm_isDay l g _ _) ⟨by decide, by decide, by decide +kernel⟩ (lw_S q1230 q1231 q50 q1232) ⟨Nat.le_of_ble_eq_true rfl, Nat.le_of_ble_eq_true rfl⟩ rfl rfl (Nat.le_of_ble_eq_true rfl) ⟨Nat.le_of_ble_eq_true rfl, Nat.le_of_ble_eq_true rfl⟩ dX2_missing_6 ?_
  refine zj_if_ne (tgt := 18) X dX2_missing_9 (by decide) (fun c_9 => ?_) (fun c_9 => ?_)
  · have e_9 : inB 0 99 x = true := zb_n.mp c_9
    refine zj_iconst (v := 0) X dX2_missing_18 rfl ?_
    refine zj_istore_n X dX2_missing_19 (by decide) ?_
    refine zj_iconst (v := 0) X dX2_missing_20 rfl ?_
    refine zj_istore_n X dX2_missing_21 (by decide) ?_
    have L_22 : ∀ k_22 : Nat, ∀ (i : Nat), i ≤ n → n < i + k_22 → (i = 0 ∨ σ1 12 0 < x) → zz_J pP l eE (zz_rm 3 64 0 0) sS mM aA bB tT cC g 4 Q h9 0 0 22 [(0, .ref m), (1, .int x), (2, .int (zsum (fun w => mReaders n σ1 w - mReviews n σ1 w) i)), (3, .int (nI i))] [] := by
      intro k_22
      induction k_22 with
      | zero =>
        intro i h1 h2
        omega
      | succ k_22 ih_22 =>
        intro i h1 h2 h3
        refine zj_iload_n X dX2_missing_22 rfl ?_
        refine zj_aload_n X dX2_missing_23 rfl ?_
        refine zj_get X in_X2 rfl 0 (by decide) q1141 (fun _ h => h) hM.o rfl (Or.inl (by decide)) dX2_missing_24 ?_
        refine zj_icmp_ge (tgt := 58) X dX2_missing_27 (by decide) (fun c_27 => ?_) (fun c_27 => ?_)
        · have e_27 := zi_ge h1 (by omega) c_27
          refine zj_iload_n X dX2_missing_58 rfl ?_
          exact zj_iret X hQ (zs_of (by rw [spMiss, if_pos e_9]) ⟨zi_c (by rw [hE 12 (by decide) (by decide)] at h3; rw [mMiss]; simp only [mReaders_c hE, mReviews_c hE]; rcases h3 with h3 | h3; (rw [← e_27, h3]; split <;> rfl); (rw [if_pos h3, e_27])), σ1, hM, hE, h14⟩) rfl (Nat.le_of_ble_eq_true rfl) (Nat.le_of_ble_eq_true rfl) dX2_missing_59
        · have e_27 := zi_lt h1 (by omega) c_27
          refine zj_iload_n X dX2_missing_30 rfl ?_
          refine zj_aload_n X dX2_missing_31 rfl ?_
          refine zj_get X in_X2 rfl 12 (by decide) q1153 (fun _ h => h) hM.o rfl (Or.inl (by decide)) dX2_missing_32 ?_
          refine zj_icmp_le (tgt := 58) X dX2_missing_35 (by decide) (fun c_35 => ?_) (fun c_35 => ?_)
          · have e_35 := Int32.not_lt.mpr c_35
            have e_0 := h3.resolve_right e_35
            refine zj_iload_n X dX2_missing_58 rfl ?_
            exact zj_iret X hQ (zs_of (by rw [spMiss, if_pos e_9]) ⟨zi_c (by have e_35 := e_35; rw [hE 12 (by decide) (by decide)] at e_35; rw [e_0, mMiss, if_neg e_35]; rfl), σ1, hM, hE, h14⟩) rfl (Nat.le_of_ble_eq_true rfl) (Nat.le_of_ble_eq_true rfl) dX2_missing_59
          · have e_35 := Int32.not_le.mp c_35
            refine zj_iload_n X dX2_missing_38 rfl ?_
            refine zj_aload_n X dX2_missing_39 rfl ?_
            refine zj_iload_n X dX2_missing_40 rfl ?_
            refine zj_callVp (n := 1) (As := [_]) X (cm_countReaders l g hM i e_27) hM.o rfl rfl ⟨by decide, by decide, by decide +kernel⟩ (lw_V q1260 q1262 qs26 q50 q1263) ⟨Nat.le_of_ble_eq_true rfl, Nat.le_of_ble_eq_true rfl⟩ rfl rfl (Nat.le_of_ble_eq_true rfl) ⟨Nat.le_of_ble_eq_true rfl, Nat.le_of_ble_eq_true rfl⟩ dX2_missing_41 ?_
            refine zj_aload_n X dX2_missing_44 rfl ?_
            refine zj_iload_n X dX2_missing_45 rfl ?_
            refine zj_callVp (n := 1) (As := [_]) X (cm_countReviews l g hM i e_27) hM.o rfl rfl ⟨by decide, by decide, by decide +kernel⟩ (lw_V q1364 q1366 qs43 q50 q1367) ⟨Nat.le_of_ble_eq_true rfl, Nat.le_of_ble_eq_true rfl⟩ rfl rfl (Nat.le_of_ble_eq_true rfl) ⟨Nat.le_of_ble_eq_true rfl, Nat.le_of_ble_eq_true rfl⟩ dX2_missing_46 ?_
            refine zj_isub X dX2_missing_49 ?_
            refine zj_iadd X dX2_missing_50 ?_
            refine zj_istore_n X dX2_missing_51 (by decide) ?_
            refine zj_iinc X dX2_missing_52 rfl (zi_1 i) (by decide) ?_
            refine zj_goto (tgt := 22) X dX2_missing_55 (by decide) ?_
            exact zj_lo (ih_22 (i + 1) (by omega) (by omega) (Or.inr e_35)) ⟨rfl, rfl, rfl, rfl, trivial⟩
    exact zj_lo (L_22 (n + 1) 0 (Nat.zero_le _) (by omega) (Or.inl rfl)) ⟨rfl, rfl, rfl, rfl, trivial⟩
  · have e_9 : inB 0 99 x = false := zb_0.mp c_9
    refine zj_aload_n X dX2_missing_12 rfl ?_
    refine zj_iconst (v := 1) X dX2_missing_13 rfl ?_
    refine zj_callV (n := 1) (As := [_]) X (cm_fail l g hM _) hM.o rfl rfl ⟨by decide, by decide, by decide +kernel⟩ (lw_V q1233 q1235 qs24 q50 q1236) ⟨Nat.le_of_ble_eq_true rfl, Nat.le_of_ble_eq_true rfl⟩ rfl rfl (Nat.le_of_ble_eq_true rfl) ⟨Nat.le_of_ble_eq_true rfl, Nat.le_of_ble_eq_true rfl⟩ dX2_missing_14 (fun v_14 h_14 p_14 => ?_)
    obtain ⟨e_14, σ2, hM2, hE2, h142⟩ := p_14
    subst e_14
    have hE2 := hE2.tr hE
    exact zj_iret X hQ (zs_of (by simp [spMiss, e_9]) ⟨rfl, σ2, hM2, hE2, h142⟩) rfl (Nat.le_of_ble_eq_true rfl) (Nat.le_of_ble_eq_true rfl) dX2_missing_17

