set_option maxRecDepth 100000
/-! THE REFERENCE: who is chosen; rounds of weights -/
def mBet (b : Bool) (n : Nat) (σ : Nat → Nat → Int32) (p q : Nat) : Bool :=
  if b = true then decide (0 < σ 3 p - σ 3 q) || (decide (σ 3 p - σ 3 q = 0) && decide (mLoad n σ p < mLoad n σ q)) else decide (mLoad n σ p < mLoad n σ q)
/-- who of the first k persons is chosen for w -/
def mCh (b : Bool) (n : Nat) (σ : Nat → Nat → Int32) (w : Nat) : Nat → Option Nat
  | 0 => none
  | k + 1 => if mMay σ k w = true then (match mCh b n σ w k with
    | none => some k
    | some q => if mBet b n σ k q = true then some k else some q) else mCh b n σ w k
theorem mCh_lt {b : Bool} {n : Nat} {σ : Nat → Nat → Int32} {w : Nat} (k : Nat) {q : Nat} (h : mCh b n σ w k = some q) : q < k := by
  induction k generalizing q with
  | zero => cases h
  | succ k ih =>
    unfold mCh at h
    split at h
    · split at h
      · cases h; omega
      · rename_i q' hq
        split at h
        · cases h; omega
        · cases h
          exact Nat.lt_succ_of_lt (ih hq)
    · exact Nat.lt_succ_of_lt (ih h)
theorem mCh_may {b : Bool} {n : Nat} {σ : Nat → Nat → Int32} {w : Nat} (k : Nat) {q : Nat} (h : mCh b n σ w k = some q) : mMay σ q w = true := by
  induction k generalizing q with
  | zero => cases h
  | succ k ih =>
    unfold mCh at h
    split at h
    · rename_i hm
      split at h
      · cases h; exact hm
      · rename_i q' hq
        split at h
        · cases h; exact hm
        · cases h
          exact ih hq
    · exact ih h
theorem mCh_no {b : Bool} {n : Nat} {σ : Nat → Nat → Int32} {w k : Nat} (hm : mMay σ k w = false) : mCh b n σ w (k + 1) = mCh b n σ w k := by
  simp [mCh, hm]
theorem mCh_none {b : Bool} {n : Nat} {σ : Nat → Nat → Int32} {w k : Nat} (hm : mMay σ k w = true) (hq : mCh b n σ w k = none) : mCh b n σ w (k + 1) = some k := by
  simp [mCh, hm, hq]
theorem mCh_some {b : Bool} {n : Nat} {σ : Nat → Nat → Int32} {w k q : Nat} (hm : mMay σ k w = true) (hq : mCh b n σ w k = some q) : mCh b n σ w (k + 1) = if mBet b n σ k q = true then some k else some q := by
  simp [mCh, hm, hq]
theorem zo_e {r : Option Nat} {N : Nat} (hN : N ≤ 65536) (hb : ∀ q, r = some q → q < N) (h : zo r = -1) : r = none := by
  cases r with
  | none => rfl
  | some q => exact absurd h (zi_m1 (by have := hb q rfl; omega))
theorem zo_n {r : Option Nat} (h : ¬ zo r = -1) : ∃ q, r = some q := by
  cases r with
  | none => exact absurd rfl h
  | some q => exact ⟨q, rfl⟩

set_option maxHeartbeats 4000000 in
theorem cm_choose (l : Launch) (g : zz_G) {h0 h : zz_H} {m : Nat} {ad : Nat → Nat} {n : Nat} {σ : Nat → Nat → Int32} (hM : MR h0 h m ad n σ) (w : Nat) (hw : w < n) (b : Bool) : zz_C l g yX2_choose cX2_choose 7 (some .int) (zz_rm 3 64 0 0) [.ref m, .int (nI w), .int (zb b)] h (fun r h' => r = some (.int (zo (mCh b n σ w n))) ∧ h' = h) := by
  refine zz_C.of (by decide) (Nat.le_of_ble_eq_true rfl) (fun pP eE sS mM aA bB tT cC X Q hQ => ?_)
  have hn := hM.le
  refine zj_iconst (v := (-1)) X dX2_choose_0 rfl ?_
  refine zj_istore_n X dX2_choose_1 (by decide) ?_
  refine zj_iconst (v := 0) X dX2_choose_2 rfl ?_
  refine zj_istore X dX2_choose_3 (by decide) ?_
  have L_5 : ∀ k_5 : Nat, ∀ (i : Nat), i ≤ n → n < i + k_5 → zz_J pP l eE (zz_rm 3 64 0 0) sS mM aA bB tT cC g 7 Q h 0 0 5 [(0, .ref m), (1, .int (nI w)), (2, .int (zb b)), (3, .int (zo (mCh b n σ w i))), (4, .int (nI i))] [] := by
    intro k_5
    induction k_5 with
    | zero =>
      intro i h1 h2
      omega
    | succ k_5 ih_5 =>
      intro i h1 h2
      refine zj_iload X dX2_choose_5 rfl ?_
      refine zj_aload_n X dX2_choose_7 rfl ?_
      refine zj_get X in_X2 rfl 0 (by decide) q1141 (fun _ h => h) hM.o rfl (Or.inl (by decide)) dX2_choose_8 ?_
      refine zj_icmp_ge (tgt := 107) X dX2_choose_11 (by decide) (fun c_11 => ?_) (fun c_11 => ?_)
      · have e_11 := zi_ge h1 (by omega) c_11
        refine zj_iload_n X dX2_choose_107 rfl ?_
        exact zj_iret X hQ (⟨by rw [e_11], rfl⟩) rfl (Nat.le_of_ble_eq_true rfl) (Nat.le_of_ble_eq_true rfl) dX2_choose_108
      · have e_11 := zi_lt h1 (by omega) c_11
        refine zj_aload_n X dX2_choose_14 rfl ?_
        refine zj_iload X dX2_choose_15 rfl ?_
        refine zj_iload_n X dX2_choose_17 rfl ?_
        refine zj_callVp (n := 2) (As := [_, _]) X (cm_may l g hM i w e_11 hw) hM.o rfl rfl ⟨by decide, by decide, by decide +kernel⟩ (lw_V q1271 q1273 qs28 q50 q1274) ⟨Nat.le_of_ble_eq_true rfl, Nat.le_of_ble_eq_true rfl⟩ rfl rfl (Nat.le_of_ble_eq_true rfl) ⟨Nat.le_of_ble_eq_true rfl, Nat.le_of_ble_eq_true rfl⟩ dX2_choose_18 ?_
        refine zj_if_eq (tgt := 101) X dX2_choose_21 (by decide) (fun c_21 => ?_) (fun c_21 => ?_)
        · have e_21 := zb_0.mp c_21
          refine zj_iinc X dX2_choose_101 rfl (zi_1 i) (by decide) ?_
          refine zj_goto (tgt := 5) X dX2_choose_104 (by decide) ?_
          exact zj_lo (ih_5 (i + 1) (by omega) (by omega)) ⟨rfl, rfl, rfl, zi_c (by first | (rw [mCh_no e_21]; done) | (rw [mCh_none e_21 e_q]; rfl) | (have e_79 := Int32.not_lt.mpr c_79; rw [mCh_some e_21 e_q, e_q]; simp [mBet, e_30, e_79, zo]; done) | (have e_79 := Int32.not_le.mp c_79; rw [mCh_some e_21 e_q]; simp [mBet, e_30, e_79, zo]; done) | (rw [mCh_some e_21 e_q]; simp [mBet, e_30, c_60, zo]; done) | (rw [mCh_some e_21 e_q, e_q]; simp [mBet, e_30, c_60, c_65, zo]; done) | (have e_79 := Int32.not_lt.mpr c_79; rw [mCh_some e_21 e_q, e_q]; simp [mBet, e_30, e_79, c_60, c_65, zo]; done) | (have e_79 := Int32.not_le.mp c_79; rw [mCh_some e_21 e_q]; simp [mBet, e_30, e_79, c_60, c_65, zo])), rfl, trivial⟩
        · have e_21 := zb_n.mp c_21
          refine zj_iload_n X dX2_choose_24 rfl ?_
          refine zj_iconst (v := (-1)) X dX2_choose_25 rfl ?_
          refine zj_icmp_eq (tgt := 33) X dX2_choose_26 (by decide) (fun c_26 => ?_) (fun c_26 => ?_)
          · have e_q := zo_e (N := n) (by omega) (fun q hq => by have := mCh_lt _ hq; omega) c_26
            refine zj_iconst (v := 0) X dX2_choose_33 rfl ?_
            refine zj_goto (tgt := 51) X dX2_choose_34 (by decide) ?_
            refine zj_istore X dX2_choose_51 (by decide) ?_
            refine zj_iload_n X dX2_choose_53 rfl ?_
            refine zj_iconst (v := (-1)) X dX2_choose_54 rfl ?_
            refine zj_icmp_eq (tgt := 82) X dX2_choose_55 (by decide) (fun c_55 => ?_) (fun c_55 => absurd c_26 c_55)
            refine zj_iconst (v := 1) X dX2_choose_82 rfl ?_
            refine zj_goto (tgt := 87) X dX2_choose_83 (by decide) ?_
            refine zj_istore X dX2_choose_87 (by decide) ?_
            refine zj_iload X dX2_choose_89 rfl ?_
            refine zj_if_eq (tgt := 99) X dX2_choose_91 (by decide) (fun c_91 => absurd c_91 (by decide)) (fun c_91 => ?_)
            refine zj_iload X dX2_choose_94 rfl ?_
            refine zj_goto (tgt := 100) X dX2_choose_96 (by decide) ?_
            refine zj_istore_n X dX2_choose_100 (by decide) ?_
            refine zj_iinc X dX2_choose_101 rfl (zi_1 i) (by decide) ?_
            refine zj_goto (tgt := 5) X dX2_choose_104 (by decide) ?_
            exact zj_lo (ih_5 (i + 1) (by omega) (by omega)) ⟨rfl, rfl, rfl, zi_c (by first | (rw [mCh_no e_21]; done) | (rw [mCh_none e_21 e_q]; rfl) | (have e_79 := Int32.not_lt.mpr c_79; rw [mCh_some e_21 e_q, e_q]; simp [mBet, e_30, e_79, zo]; done) | (have e_79 := Int32.not_le.mp c_79; rw [mCh_some e_21 e_q]; simp [mBet, e_30, e_79, zo]; done) | (rw [mCh_some e_21 e_q]; simp [mBet, e_30, c_60, zo]; done) | (rw [mCh_some e_21 e_q, e_q]; simp [mBet, e_30, c_60, c_65, zo]; done) | (have e_79 := Int32.not_lt.mpr c_79; rw [mCh_some e_21 e_q, e_q]; simp [mBet, e_30, e_79, c_60, c_65, zo]; done) | (have e_79 := Int32.not_le.mp c_79; rw [mCh_some e_21 e_q]; simp [mBet, e_30, e_79, c_60, c_65, zo])), rfl, trivial⟩
          · obtain ⟨q, e_q⟩ := zo_n c_26
            have hq := mCh_lt _ e_q
            refine zj_iload_n X dX2_choose_29 rfl ?_
            refine zj_if_ne (tgt := 37) X dX2_choose_30 (by decide) (fun c_30 => ?_) (fun c_30 => ?_)
            · have e_30 := zb_n.mp c_30
              refine zj_aload_n X dX2_choose_37 rfl ?_
              refine zj_get X in_X2 rfl 3 (by decide) q1144 (fun _ h => h) hM.o rfl (Or.inl (by decide)) dX2_choose_38 ?_
              refine zj_iload X dX2_choose_41 rfl ?_
              refine zj_iald X (hM.arr 3 rfl) (rfl) (by show _ < 16; omega) (by omega) dX2_choose_43 ?_
              refine zj_aload_n X dX2_choose_44 rfl ?_
              refine zj_get X in_X2 rfl 3 (by decide) q1144 (fun _ h => h) hM.o rfl (Or.inl (by decide)) dX2_choose_45 ?_
              refine zj_iload_n X dX2_choose_48 rfl ?_
              refine zj_iald X (hM.arr 3 rfl) ((by rw [e_q]; rfl)) (by show _ < 16; omega) (by omega) dX2_choose_49 ?_
              refine zj_isub X dX2_choose_50 ?_
              refine zj_istore X dX2_choose_51 (by decide) ?_
              refine zj_iload_n X dX2_choose_53 rfl ?_
              refine zj_iconst (v := (-1)) X dX2_choose_54 rfl ?_
              refine zj_icmp_eq (tgt := 82) X dX2_choose_55 (by decide) (fun c_55 => absurd c_55 c_26) (fun c_55 => ?_)
              refine zj_iload X dX2_choose_58 rfl ?_
              refine zj_if_gt (tgt := 82) X dX2_choose_60 (by decide) (fun c_60 => ?_) (fun c_60 => ?_)
              · refine zj_iconst (v := 1) X dX2_choose_82 rfl ?_
                refine zj_goto (tgt := 87) X dX2_choose_83 (by decide) ?_
                refine zj_istore X dX2_choose_87 (by decide) ?_
                refine zj_iload X dX2_choose_89 rfl ?_
                refine zj_if_eq (tgt := 99) X dX2_choose_91 (by decide) (fun c_91 => absurd c_91 (by decide)) (fun c_91 => ?_)
                refine zj_iload X dX2_choose_94 rfl ?_
                refine zj_goto (tgt := 100) X dX2_choose_96 (by decide) ?_
                refine zj_istore_n X dX2_choose_100 (by decide) ?_
                refine zj_iinc X dX2_choose_101 rfl (zi_1 i) (by decide) ?_
                refine zj_goto (tgt := 5) X dX2_choose_104 (by decide) ?_
                exact zj_lo (ih_5 (i + 1) (by omega) (by omega)) ⟨rfl, rfl, rfl, zi_c (by first | (rw [mCh_no e_21]; done) | (rw [mCh_none e_21 e_q]; rfl) | (have e_79 := Int32.not_lt.mpr c_79; rw [mCh_some e_21 e_q, e_q]; simp [mBet, e_30, e_79, zo]; done) | (have e_79 := Int32.not_le.mp c_79; rw [mCh_some e_21 e_q]; simp [mBet, e_30, e_79, zo]; done) | (rw [mCh_some e_21 e_q]; simp [mBet, e_30, c_60, zo]; done) | (rw [mCh_some e_21 e_q, e_q]; simp [mBet, e_30, c_60, c_65, zo]; done) | (have e_79 := Int32.not_lt.mpr c_79; rw [mCh_some e_21 e_q, e_q]; simp [mBet, e_30, e_79, c_60, c_65, zo]; done) | (have e_79 := Int32.not_le.mp c_79; rw [mCh_some e_21 e_q]; simp [mBet, e_30, e_79, c_60, c_65, zo])), rfl, trivial⟩
              · refine zj_iload X dX2_choose_63 rfl ?_
                refine zj_if_ne (tgt := 86) X dX2_choose_65 (by decide) (fun c_65 => ?_) (fun c_65 => ?_)
                · refine zj_iconst (v := 0) X dX2_choose_86 rfl ?_
                  refine zj_istore X dX2_choose_87 (by decide) ?_
                  refine zj_iload X dX2_choose_89 rfl ?_
                  refine zj_if_eq (tgt := 99) X dX2_choose_91 (by decide) (fun c_91 => ?_) (fun c_91 => absurd (by decide) c_91)
                  refine zj_iload_n X dX2_choose_99 rfl ?_
                  refine zj_istore_n X dX2_choose_100 (by decide) ?_
                  refine zj_iinc X dX2_choose_101 rfl (zi_1 i) (by decide) ?_
                  refine zj_goto (tgt := 5) X dX2_choose_104 (by decide) ?_
                  exact zj_lo (ih_5 (i + 1) (by omega) (by omega)) ⟨rfl, rfl, rfl, zi_c (by first | (rw [mCh_no e_21]; done) | (rw [mCh_none e_21 e_q]; rfl) | (have e_79 := Int32.not_lt.mpr c_79; rw [mCh_some e_21 e_q, e_q]; simp [mBet, e_30, e_79, zo]; done) | (have e_79 := Int32.not_le.mp c_79; rw [mCh_some e_21 e_q]; simp [mBet, e_30, e_79, zo]; done) | (rw [mCh_some e_21 e_q]; simp [mBet, e_30, c_60, zo]; done) | (rw [mCh_some e_21 e_q, e_q]; simp [mBet, e_30, c_60, c_65, zo]; done) | (have e_79 := Int32.not_lt.mpr c_79; rw [mCh_some e_21 e_q, e_q]; simp [mBet, e_30, e_79, c_60, c_65, zo]; done) | (have e_79 := Int32.not_le.mp c_79; rw [mCh_some e_21 e_q]; simp [mBet, e_30, e_79, c_60, c_65, zo])), rfl, trivial⟩
                · skip
                  refine zj_aload_n X dX2_choose_68 rfl ?_
                  refine zj_iload X dX2_choose_69 rfl ?_
                  refine zj_callVp (n := 1) (As := [_]) X (cm_load l g hM i e_11) hM.o rfl rfl ⟨by decide, by decide, by decide +kernel⟩ (lw_V q1279 q1281 qs30 q50 q1282) ⟨Nat.le_of_ble_eq_true rfl, Nat.le_of_ble_eq_true rfl⟩ rfl rfl (Nat.le_of_ble_eq_true rfl) ⟨Nat.le_of_ble_eq_true rfl, Nat.le_of_ble_eq_true rfl⟩ dX2_choose_71 ?_
                  refine zj_aload_n X dX2_choose_74 rfl ?_
                  refine zj_iload_n X dX2_choose_75 rfl ?_
                  refine zj_top (x' := nI q) (by rw [e_q]; rfl) ?_
                  refine zj_callVp (n := 1) (As := [_]) X (cm_load l g hM q (by omega)) hM.o rfl rfl ⟨by decide, by decide, by decide +kernel⟩ (lw_V q1279 q1281 qs30 q50 q1282) ⟨Nat.le_of_ble_eq_true rfl, Nat.le_of_ble_eq_true rfl⟩ rfl rfl (Nat.le_of_ble_eq_true rfl) ⟨Nat.le_of_ble_eq_true rfl, Nat.le_of_ble_eq_true rfl⟩ dX2_choose_76 ?_
                  refine zj_icmp_ge (tgt := 86) X dX2_choose_79 (by decide) (fun c_79 => ?_) (fun c_79 => ?_)
                  · refine zj_iconst (v := 0) X dX2_choose_86 rfl ?_
                    refine zj_istore X dX2_choose_87 (by decide) ?_
                    refine zj_iload X dX2_choose_89 rfl ?_
                    refine zj_if_eq (tgt := 99) X dX2_choose_91 (by decide) (fun c_91 => ?_) (fun c_91 => absurd (by decide) c_91)
                    refine zj_iload_n X dX2_choose_99 rfl ?_
                    refine zj_istore_n X dX2_choose_100 (by decide) ?_
                    refine zj_iinc X dX2_choose_101 rfl (zi_1 i) (by decide) ?_
                    refine zj_goto (tgt := 5) X dX2_choose_104 (by decide) ?_
                    exact zj_lo (ih_5 (i + 1) (by omega) (by omega)) ⟨rfl, rfl, rfl, zi_c (by first | (rw [mCh_no e_21]; done) | (rw [mCh_none e_21 e_q]; rfl) | (have e_79 := Int32.not_lt.mpr c_79; rw [mCh_some e_21 e_q, e_q]; simp [mBet, e_30, e_79, zo]; done) | (have e_79 := Int32.not_le.mp c_79; rw [mCh_some e_21 e_q]; simp [mBet, e_30, e_79, zo]; done) | (rw [mCh_some e_21 e_q]; simp [mBet, e_30, c_60, zo]; done) | (rw [mCh_some e_21 e_q, e_q]; simp [mBet, e_30, c_60, c_65, zo]; done) | (have e_79 := Int32.not_lt.mpr c_79; rw [mCh_some e_21 e_q, e_q]; simp [mBet, e_30, e_79, c_60, c_65, zo]; done) | (have e_79 := Int32.not_le.mp c_79; rw [mCh_some e_21 e_q]; simp [mBet, e_30, e_79, c_60, c_65, zo])), rfl, trivial⟩
                  · refine zj_iconst (v := 1) X dX2_choose_82 rfl ?_
                    refine zj_goto (tgt := 87) X dX2_choose_83 (by decide) ?_
                    refine zj_istore X dX2_choose_87 (by decide) ?_
                    refine zj_iload X dX2_choose_89 rfl ?_
                    refine zj_if_eq (tgt := 99) X dX2_choose_91 (by decide) (fun c_91 => absurd c_91 (by decide)) (fun c_91 => ?_)
                    refine zj_iload X dX2_choose_94 rfl ?_
                    refine zj_goto (tgt := 100) X dX2_choose_96 (by decide) ?_
                    refine zj_istore_n X dX2_choose_100 (by decide) ?_
                    refine zj_iinc X dX2_choose_101 rfl (zi_1 i) (by decide) ?_
                    refine zj_goto (tgt := 5) X dX2_choose_104 (by decide) ?_
                    exact zj_lo (ih_5 (i + 1) (by omega) (by omega)) ⟨rfl, rfl, rfl, zi_c (by first | (rw [mCh_no e_21]; done) | (rw [mCh_none e_21 e_q]; rfl) | (have e_79 := Int32.not_lt.mpr c_79; rw [mCh_some e_21 e_q, e_q]; simp [mBet, e_30, e_79, zo]; done) | (have e_79 := Int32.not_le.mp c_79; rw [mCh_some e_21 e_q]; simp [mBet, e_30, e_79, zo]; done) | (rw [mCh_some e_21 e_q]; simp [mBet, e_30, c_60, zo]; done) | (rw [mCh_some e_21 e_q, e_q]; simp [mBet, e_30, c_60, c_65, zo]; done) | (have e_79 := Int32.not_lt.mpr c_79; rw [mCh_some e_21 e_q, e_q]; simp [mBet, e_30, e_79, c_60, c_65, zo]; done) | (have e_79 := Int32.not_le.mp c_79; rw [mCh_some e_21 e_q]; simp [mBet, e_30, e_79, c_60, c_65, zo])), rfl, trivial⟩
            · have e_30 := zb_0.mp c_30
              refine zj_iconst (v := 0) X dX2_choose_33 rfl ?_
              refine zj_goto (tgt := 51) X dX2_choose_34 (by decide) ?_
              refine zj_istore X dX2_choose_51 (by decide) ?_
              refine zj_iload_n X dX2_choose_53 rfl ?_
              refine zj_iconst (v := (-1)) X dX2_choose_54 rfl ?_
              refine zj_icmp_eq (tgt := 82) X dX2_choose_55 (by decide) (fun c_55 => absurd c_55 c_26) (fun c_55 => ?_)
              refine zj_iload X dX2_choose_58 rfl ?_
              refine zj_if_gt (tgt := 82) X dX2_choose_60 (by decide) (fun c_60 => absurd c_60 (by decide)) (fun c_60 => ?_)
              refine zj_iload X dX2_choose_63 rfl ?_
              refine zj_if_ne (tgt := 86) X dX2_choose_65 (by decide) (fun c_65 => absurd rfl c_65) (fun c_65 => ?_)
              refine zj_aload_n X dX2_choose_68 rfl ?_
              refine zj_iload X dX2_choose_69 rfl ?_
              refine zj_callVp (n := 1) (As := [_]) X (cm_load l g hM i e_11) hM.o rfl rfl ⟨by decide, by decide, by decide +kernel⟩ (lw_V q1279 q1281 qs30 q50 q1282) ⟨Nat.le_of_ble_eq_true rfl, Nat.le_of_ble_eq_true rfl⟩ rfl rfl (Nat.le_of_ble_eq_true rfl) ⟨Nat.le_of_ble_eq_true rfl, Nat.le_of_ble_eq_true rfl⟩ dX2_choose_71 ?_
              refine zj_aload_n X dX2_choose_74 rfl ?_
              refine zj_iload_n X dX2_choose_75 rfl ?_
              refine zj_top (x' := nI q) (by rw [e_q]; rfl) ?_
              refine zj_callVp (n := 1) (As := [_]) X (cm_load l g hM q (by omega)) hM.o rfl rfl ⟨by decide, by decide, by decide +kernel⟩ (lw_V q1279 q1281 qs30 q50 q1282) ⟨Nat.le_of_ble_eq_true rfl, Nat.le_of_ble_eq_true rfl⟩ rfl rfl (Nat.le_of_ble_eq_true rfl) ⟨Nat.le_of_ble_eq_true rfl, Nat.le_of_ble_eq_true rfl⟩ dX2_choose_76 ?_
              refine zj_icmp_ge (tgt := 86) X dX2_choose_79 (by decide) (fun c_79 => ?_) (fun c_79 => ?_)
              · refine zj_iconst (v := 0) X dX2_choose_86 rfl ?_
                refine zj_istore X dX2_choose_87 (by decide) ?_
                refine zj_iload X dX2_choose_89 rfl ?_
                refine zj_if_eq (tgt := 99) X dX2_choose_91 (by decide) (fun c_91 => ?_) (fun c_91 => absurd (by decide) c_91)
                refine zj_iload_n X dX2_choose_99 rfl ?_
                refine zj_istore_n X dX2_choose_100 (by decide) ?_
                refine zj_iinc X dX2_choose_101 rfl (zi_1 i) (by decide) ?_
                refine zj_goto (tgt := 5) X dX2_choose_104 (by decide) ?_
                exact zj_lo (ih_5 (i + 1) (by omega) (by omega)) ⟨rfl, rfl, rfl, zi_c (by first | (rw [mCh_no e_21]; done) | (rw [mCh_none e_21 e_q]; rfl) | (have e_79 := Int32.not_lt.mpr c_79; rw [mCh_some e_21 e_q, e_q]; simp [mBet, e_30, e_79, zo]; done) | (have e_79 := Int32.not_le.mp c_79; rw [mCh_some e_21 e_q]; simp [mBet, e_30, e_79, zo]; done) | (rw [mCh_some e_21 e_q]; simp [mBet, e_30, c_60, zo]; done) | (rw [mCh_some e_21 e_q, e_q]; simp [mBet, e_30, c_60, c_65, zo]; done) | (have e_79 := Int32.not_lt.mpr c_79; rw [mCh_some e_21 e_q, e_q]; simp [mBet, e_30, e_79, c_60, c_65, zo]; done) | (have e_79 := Int32.not_le.mp c_79; rw [mCh_some e_21 e_q]; simp [mBet, e_30, e_79, c_60, c_65, zo])), rfl, trivial⟩
              · refine zj_iconst (v := 1) X dX2_choose_82 rfl ?_
                refine zj_goto (tgt := 87) X dX2_choose_83 (by decide) ?_
                refine zj_istore X dX2_choose_87 (by decide) ?_
                refine zj_iload X dX2_choose_89 rfl ?_
                refine zj_if_eq (tgt := 99) X dX2_choose_91 (by decide) (fun c_91 => absurd c_91 (by decide)) (fun c_91 => ?_)
                refine zj_iload X dX2_choose_94 rfl ?_
                refine zj_goto (tgt := 100) X dX2_choose_96 (by decide) ?_
                refine zj_istore_n X dX2_choose_100 (by decide) ?_
                refine zj_iinc X dX2_choose_101 rfl (zi_1 i) (by decide) ?_
                refine zj_goto (tgt := 5) X dX2_choose_104 (by decide) ?_
                exact zj_lo (ih_5 (i + 1) (by omega) (by omega)) ⟨rfl, rfl, rfl, zi_c (by first | (rw [mCh_no e_21]; done) | (rw [mCh_none e_21 e_q]; rfl) | (have e_79 := Int32.not_lt.mpr c_79; rw [mCh_some e_21 e_q, e_q]; simp [mBet, e_30, e_79, zo]; done) | (have e_79 := Int32.not_le.mp c_79; rw [mCh_some e_21 e_q]; simp [mBet, e_30, e_79, zo]; done) | (rw [mCh_some e_21 e_q]; simp [mBet, e_30, c_60, zo]; done) | (rw [mCh_some e_21 e_q, e_q]; simp [mBet, e_30, c_60, c_65, zo]; done) | (have e_79 := Int32.not_lt.mpr c_79; rw [mCh_some e_21 e_q, e_q]; simp [mBet, e_30, e_79, c_60, c_65, zo]; done) | (have e_79 := Int32.not_le.mp c_79; rw [mCh_some e_21 e_q]; simp [mBet, e_30, e_79, c_60, c_65, zo])), rfl, trivial⟩
  exact zj_lo (L_5 (n + 1) 0 (Nat.zero_le _) (by omega)) ⟨rfl, rfl, rfl, rfl, rfl, trivial⟩

set_option maxHeartbeats 4000000 in
theorem cm_freshWeight (l : Launch) (g : zz_G) {h0 h : zz_H} {m : Nat} {ad : Nat → Nat} {n : Nat} {σ : Nat → Nat → Int32} (hM : MR h0 h m ad n σ) (hc : mCal n σ) (p : Nat) (hp : p < n) : zz_C l g yX2_freshWeight cX2_freshWeight 5 (some .int) (zz_rm 2 41 0 0) [.ref m, .int (nI p)] h (fun r h' => r = some (.int (mFresh n σ p (σ 18))) ∧ h' = h) := by
  refine zz_C.of (by decide) (Nat.le_of_ble_eq_true rfl) (fun pP eE sS mM aA bB tT cC X Q hQ => ?_)
  have hn := hM.le
  refine zj_aload_n X dX2_freshWeight_0 rfl ?_
  refine zj_get X in_X2 rfl 5 (by decide) q1146 (fun _ h => h) hM.o rfl (Or.inl (by decide)) dX2_freshWeight_1 ?_
  refine zj_iload_n X dX2_freshWeight_4 rfl ?_
  refine zj_iald X (hM.arr 5 rfl) (rfl) (by show _ < 16; omega) (by omega) dX2_freshWeight_5 ?_
  refine zj_istore_n X dX2_freshWeight_6 (by decide) ?_
  refine zj_aload_n X dX2_freshWeight_7 rfl ?_
  refine zj_get X in_X2 rfl 4 (by decide) q1145 (fun _ h => h) hM.o rfl (Or.inl (by decide)) dX2_freshWeight_8 ?_
  refine zj_iload_n X dX2_freshWeight_11 rfl ?_
  refine zj_iald X (hM.arr 4 rfl) (rfl) (by show _ < 16; omega) (by omega) dX2_freshWeight_12 ?_
  refine zj_istore_n X dX2_freshWeight_13 (by decide) ?_
  refine zj_iconst (v := 0) X dX2_freshWeight_14 rfl ?_
  refine zj_istore X dX2_freshWeight_15 (by decide) ?_
  have L_17 : ∀ k_17 : Nat, ∀ (i : Nat), i ≤ n → n < i + k_17 → zz_J pP l eE (zz_rm 2 41 0 0) sS mM aA bB tT cC g 5 Q h 0 0 17 [(0, .ref m), (1, .int (nI p)), (2, .int (mFr σ p (σ 18) i).1), (3, .int (mFr σ p (σ 18) i).2), (4, .int (nI i))] [] := by
    intro k_17
    induction k_17 with
    | zero =>
      intro i h1 h2
      omega
    | succ k_17 ih_17 =>
      intro i h1 h2
      refine zj_iload X dX2_freshWeight_17 rfl ?_
      refine zj_aload_n X dX2_freshWeight_19 rfl ?_
      refine zj_get X in_X2 rfl 0 (by decide) q1141 (fun _ h => h) hM.o rfl (Or.inl (by decide)) dX2_freshWeight_20 ?_
      refine zj_icmp_ge (tgt := 75) X dX2_freshWeight_23 (by decide) (fun c_23 => ?_) (fun c_23 => ?_)
      · have e_23 := zi_ge h1 (by omega) c_23
        refine zj_iload_n X dX2_freshWeight_75 rfl ?_
        refine zj_if_ne (tgt := 88) X dX2_freshWeight_76 (by decide) (fun c_76 => ?_) (fun c_76 => ?_)
        · refine zj_iload_n X dX2_freshWeight_88 rfl ?_
          refine zj_iload_n X dX2_freshWeight_89 rfl ?_
          refine zj_callSp (n := 2) (As := [_, _]) X (cm_weightBy l g h _ _ (by obtain ⟨c, h3, h4⟩ := mFr_many hc hp (σ 18) i; rw [h4] at c_76 ⊢; exact zi_4 (fun z => c_76 (by rw [z]; rfl)) (by omega))) ⟨by decide, by decide, by decide +kernel⟩ (lw_S q1324 q1325 q50 q1326) ⟨Nat.le_of_ble_eq_true rfl, Nat.le_of_ble_eq_true rfl⟩ rfl rfl (Nat.le_of_ble_eq_true rfl) ⟨Nat.le_of_ble_eq_true rfl, Nat.le_of_ble_eq_true rfl⟩ dX2_freshWeight_90 ?_
          exact zj_iret X hQ (⟨by subst e_23; simp [mFresh, c_76], rfl⟩) rfl (Nat.le_of_ble_eq_true rfl) (Nat.le_of_ble_eq_true rfl) dX2_freshWeight_93
        · refine zj_aload_n X dX2_freshWeight_79 rfl ?_
          refine zj_get X in_X2 rfl 3 (by decide) q1144 (fun _ h => h) hM.o rfl (Or.inl (by decide)) dX2_freshWeight_80 ?_
          refine zj_iload_n X dX2_freshWeight_83 rfl ?_
          refine zj_iald X (hM.arr 3 rfl) (rfl) (by show _ < 16; omega) (by omega) dX2_freshWeight_84 ?_
          refine zj_goto (tgt := 93) X dX2_freshWeight_85 (by decide) ?_
          exact zj_iret X hQ (⟨by subst e_23; simp [mFresh, c_76], rfl⟩) rfl (Nat.le_of_ble_eq_true rfl) (Nat.le_of_ble_eq_true rfl) dX2_freshWeight_93
      · have e_23 := zi_lt h1 (by omega) c_23
        refine zj_aload_n X dX2_freshWeight_26 rfl ?_
        refine zj_get X in_X2 rfl 10 (by decide) q1151 (fun _ h => h) hM.o rfl (Or.inl (by decide)) dX2_freshWeight_27 ?_
        refine zj_iload_n X dX2_freshWeight_30 rfl ?_
        refine zj_iload X dX2_freshWeight_31 rfl ?_
        refine zj_callSp (n := 2) (As := [_, _]) X (cm_at l g _ _ _) ⟨by decide, by decide, by decide +kernel⟩ (lw_S q1264 q1265 q50 q1266) ⟨Nat.le_of_ble_eq_true rfl, Nat.le_of_ble_eq_true rfl⟩ rfl rfl (Nat.le_of_ble_eq_true rfl) ⟨Nat.le_of_ble_eq_true rfl, Nat.le_of_ble_eq_true rfl⟩ dX2_freshWeight_33 ?_
        refine zj_iald X (hM.arr 10 rfl) (rfl) (by show _ < 256; omega) (by omega) dX2_freshWeight_36 ?_
        refine zj_iconst (v := (-1)) X dX2_freshWeight_37 rfl ?_
        refine zj_icmp_eq (tgt := 69) X dX2_freshWeight_38 (by decide) (fun c_38 => ?_) (fun c_38 => ?_)
        · refine zj_iinc X dX2_freshWeight_69 rfl (zi_1 i) (by decide) ?_
          refine zj_goto (tgt := 17) X dX2_freshWeight_72 (by decide) ?_
          exact zj_lo (ih_17 (i + 1) (by omega) (by omega)) ⟨rfl, rfl, zi_c (by simp [mFr, c_38]), zi_c (by simp [mFr, c_38]), rfl, trivial⟩
        · refine zj_iload_n X dX2_freshWeight_41 rfl ?_
          refine zj_aload_n X dX2_freshWeight_42 rfl ?_
          refine zj_get X in_X2 rfl 10 (by decide) q1151 (fun _ h => h) hM.o rfl (Or.inl (by decide)) dX2_freshWeight_43 ?_
          refine zj_iload_n X dX2_freshWeight_46 rfl ?_
          refine zj_iload X dX2_freshWeight_47 rfl ?_
          refine zj_callSp (n := 2) (As := [_, _]) X (cm_at l g _ _ _) ⟨by decide, by decide, by decide +kernel⟩ (lw_S q1264 q1265 q50 q1266) ⟨Nat.le_of_ble_eq_true rfl, Nat.le_of_ble_eq_true rfl⟩ rfl rfl (Nat.le_of_ble_eq_true rfl) ⟨Nat.le_of_ble_eq_true rfl, Nat.le_of_ble_eq_true rfl⟩ dX2_freshWeight_49 ?_
          refine zj_iald X (hM.arr 10 rfl) (rfl) (by show _ < 256; omega) (by omega) dX2_freshWeight_52 ?_
          refine zj_aload_n X dX2_freshWeight_53 rfl ?_
          refine zj_get X in_X2 rfl 18 (by decide) q1159 (fun _ h => h) hM.o rfl (Or.inl (by decide)) dX2_freshWeight_54 ?_
          refine zj_iload X dX2_freshWeight_57 rfl ?_
          refine zj_iald X (hM.arr 18 rfl) (rfl) (by show _ < 16; omega) (by omega) dX2_freshWeight_59 ?_
          refine zj_isub X dX2_freshWeight_60 ?_
          refine zj_mabs X q1319 q436 q58 q437 ⟨Nat.le_of_ble_eq_true rfl, Nat.le_of_ble_eq_true rfl⟩ ⟨Nat.le_of_ble_eq_true rfl, Nat.le_of_ble_eq_true rfl⟩ dX2_freshWeight_61 ?_
          refine zj_iadd X dX2_freshWeight_64 ?_
          refine zj_istore_n X dX2_freshWeight_65 (by decide) ?_
          refine zj_iinc X dX2_freshWeight_66 rfl rfl (by decide) ?_
          refine zj_iinc X dX2_freshWeight_69 rfl (zi_1 i) (by decide) ?_
          refine zj_goto (tgt := 17) X dX2_freshWeight_72 (by decide) ?_
          exact zj_lo (ih_17 (i + 1) (by omega) (by omega)) ⟨rfl, rfl, zi_c (by simp [mFr, c_38]), zi_c (by simp [mFr, c_38]), rfl, trivial⟩
  exact zj_lo (L_17 (n + 1) 0 (Nat.zero_le _) (by omega)) ⟨rfl, rfl, rfl, rfl, rfl, trivial⟩

