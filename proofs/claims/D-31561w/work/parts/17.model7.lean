set_option maxRecDepth 100000
/-! THE REFERENCE: sharing, calibrations, reviews, outliers, replacing, appeals -/
/-- one turn of sharing out: c.1 were found so far -/
def mShS (rd : Int32) (n w : Nat) (c : Int32 × (Nat → Nat → Int32)) : Int32 × (Nat → Nat → Int32) :=
  if ¬ c.2 2 w = 0 ∧ mReaders n c.2 w < rd then (match mCh false n c.2 w n with
    | none => c
    | some q => (c.1 + 1, zk c.2 7 (upd (c.2 7) (16 * w + q) 1))) else c
def mSh (rd : Int32) (n : Nat) (σ : Nat → Nat → Int32) : Nat → Int32 × (Nat → Nat → Int32)
  | 0 => (0, σ)
  | k + 1 => mShS rd n (k % n) (mSh rd n σ k)
def spShare (n : Nat) (σ : Nat → Nat → Int32) (x : Int32) : zS := if inB 1 5 x = true then (0, (mSh x n σ (cN x * n)).1, n, (mSh x n σ (cN x * n)).2) else (1, 0, n, σ)
theorem mShS_c {rd : Int32} {n w : Nat} {a : Int32} {σ σ' : Nat → Nat → Int32} (h : mEq σ σ') : (mShS rd n w (a, σ)).1 = (mShS rd n w (a, σ')).1 ∧ mEq (mShS rd n w (a, σ)).2 (mShS rd n w (a, σ')).2 := by
  simp only [mShS, h 2 (by decide) (by decide), mReaders_c h, mCh_c h]
  split
  · split
    · exact ⟨rfl, h⟩
    · exact ⟨rfl, h.st (by decide) (by decide) rfl⟩
  · exact ⟨rfl, h⟩
theorem mSh_c {rd : Int32} {n : Nat} {σ σ' : Nat → Nat → Int32} (h : mEq σ σ') (k : Nat) : (mSh rd n σ k).1 = (mSh rd n σ' k).1 ∧ mEq (mSh rd n σ k).2 (mSh rd n σ' k).2 := by
  induction k with
  | zero => exact ⟨rfl, h⟩
  | succ k ih =>
    obtain ⟨h1, h2⟩ := ih
    have e : mSh rd n σ (k + 1) = mShS rd n (k % n) ((mSh rd n σ k).1, (mSh rd n σ k).2) := rfl
    have e' : mSh rd n σ' (k + 1) = mShS rd n (k % n) ((mSh rd n σ' k).1, (mSh rd n σ' k).2) := rfl
    rw [e, e', h1]
    exact mShS_c h2
theorem mSh_a {rd : Int32} {n k : Nat} {σ : Nat → Nat → Int32} (h : (mSh rd n σ k).2 2 (k % n) = 0) : mSh rd n σ (k + 1) = mSh rd n σ k := by
  show mShS rd n (k % n) (mSh rd n σ k) = _
  rw [mShS, if_neg (fun z => z.1 h)]
theorem mSh_b {rd : Int32} {n k : Nat} {σ : Nat → Nat → Int32} (h : rd ≤ mReaders n (mSh rd n σ k).2 (k % n)) : mSh rd n σ (k + 1) = mSh rd n σ k := by
  show mShS rd n (k % n) (mSh rd n σ k) = _
  rw [mShS, if_neg (fun z => absurd z.2 (Int32.not_lt.mpr h))]
theorem mSh_d {rd : Int32} {n k : Nat} {σ : Nat → Nat → Int32} (h0 : ¬ (mSh rd n σ k).2 2 (k % n) = 0) (h1 : ¬ rd ≤ mReaders n (mSh rd n σ k).2 (k % n)) (h : mCh false n (mSh rd n σ k).2 (k % n) n = none) : mSh rd n σ (k + 1) = mSh rd n σ k := by
  show mShS rd n (k % n) (mSh rd n σ k) = _
  rw [mShS, if_pos ⟨h0, Int32.not_le.mp h1⟩, h]
theorem mSh_e {rd : Int32} {n k q : Nat} {σ : Nat → Nat → Int32} (h0 : ¬ (mSh rd n σ k).2 2 (k % n) = 0) (h1 : ¬ rd ≤ mReaders n (mSh rd n σ k).2 (k % n)) (h : mCh false n (mSh rd n σ k).2 (k % n) n = some q) : mSh rd n σ (k + 1) = ((mSh rd n σ k).1 + 1, zk (mSh rd n σ k).2 7 (upd ((mSh rd n σ k).2 7) (16 * (k % n) + q) 1)) := by
  show mShS rd n (k % n) (mSh rd n σ k) = _
  rw [mShS, if_pos ⟨h0, Int32.not_le.mp h1⟩, h]

set_option maxHeartbeats 4000000 in
theorem cm_share (l : Launch) (g : zz_G) {h0 h : zz_H} {m : Nat} {ad : Nat → Nat} {n : Nat} {σ : Nat → Nat → Int32} (hM : MR h0 h m ad n σ) (x : Int32) : zz_C l g yX2_share cX2_share 6 (some .int) (zz_rm 4 90 0 0) [.ref m, .int x] h (zs h0 m ad (spShare n σ x)) := by
  refine zz_C.of (by decide) (Nat.le_of_ble_eq_true rfl) (fun pP eE sS mM aA bB tT cC X Q hQ => ?_)
  have hn := hM.le
  refine zj_aload_n X dX2_share_0 rfl ?_
  refine zj_iconst (v := 0) X dX2_share_1 rfl ?_
  refine zm_th X hM q1155 (fun _ h => h) dX2_share_2 (fun h9 σ1 hM hE h14 => ?_)
  refine zj_iload_n X dX2_share_5 rfl ?_
  refine zj_iconst (v := 1) X dX2_share_6 rfl ?_
  refine zj_iconst (v := 5) X dX2_share_7 rfl ?_
  refine zj_callSp (n := 3) (As := [_, _, _]) X (cm_isBetween l g _ _ _ _) ⟨by decide, by decide, by decide +kernel⟩ (lw_S q1211 q1212 q50 q1213) ⟨Nat.le_of_ble_eq_true rfl, Nat.le_of_ble_eq_true rfl⟩ rfl rfl (Nat.le_of_ble_eq_true rfl) ⟨Nat.le_of_ble_eq_true rfl, Nat.le_of_ble_eq_true rfl⟩ dX2_share_8 ?_
  refine zj_if_ne (tgt := 20) X dX2_share_11 (by decide) (fun c_11 => ?_) (fun c_11 => ?_)
  · have e_11 : inB 1 5 x = true := zb_n.mp c_11
    obtain ⟨r, hr1, hr2, rfl⟩ := inB_t (a := 1) (b := 5) (by decide) (by decide) e_11
    refine zj_iconst (v := 0) X dX2_share_20 rfl ?_
    refine zj_istore_n X dX2_share_21 (by decide) ?_
    refine zj_iconst (v := 0) X dX2_share_22 rfl ?_
    refine zj_istore_n X dX2_share_23 (by decide) ?_
    have hrn : r * n ≤ 80 := Nat.mul_le_mul hr2 hn
    have L_24 : ∀ k_24 : Nat, ∀ (i : Nat) (h : zz_H), MR h0 h m ad n (mSh (nI r) n σ1 i).2 → (mSh (nI r) n σ1 i).2 14 0 = 0 → i ≤ r * n → r * n < i + k_24 → zz_J pP l eE (zz_rm 4 90 0 0) sS mM aA bB tT cC g 6 Q h 0 0 24 [(0, .ref m), (1, .int (nI r)), (2, .int (mSh (nI r) n σ1 i).1), (3, .int (nI i))] [] := by
      intro k_24
      induction k_24 with
      | zero =>
        intro i h hM h4 h1 h2
        omega
      | succ k_24 ih_24 =>
        intro i h hM h4 h1 h2
        refine zj_iload_n X dX2_share_24 rfl ?_
        refine zj_iload_n X dX2_share_25 rfl ?_
        refine zj_aload_n X dX2_share_26 rfl ?_
        refine zj_get X in_X2 rfl 0 (by decide) q1141 (fun _ h => h) hM.o rfl (Or.inl (by decide)) dX2_share_27 ?_
        refine zj_imul X dX2_share_30 ?_
        refine zj_top (x' := nI (r * n)) (pk_mul r n) ?_
        refine zj_icmp_ge (tgt := 103) X dX2_share_31 (by decide) (fun c_31 => ?_) (fun c_31 => ?_)
        · have e_31 := zi_ge h1 (by omega) c_31
          refine zj_iload_n X dX2_share_103 rfl ?_
          exact zj_iret X hQ (zs_of (by rw [spShare, if_pos e_11, cN_j (by omega)]) ⟨zi_c (by rw [e_31]; exact (mSh_c hE _).1), _, hM, (by rw [e_31]; exact (mSh_c hE _).2), h4⟩) rfl (Nat.le_of_ble_eq_true rfl) (Nat.le_of_ble_eq_true rfl) dX2_share_104
        · have e_31 := zi_lt h1 (by omega) c_31
          have hn0 : 0 < n := by
            rcases Nat.eq_zero_or_pos n with z | z
            · rw [z, Nat.mul_zero] at e_31; omega
            · exact z
          have hw : i % n < n := Nat.mod_lt _ hn0
          refine zj_iload_n X dX2_share_34 rfl ?_
          refine zj_aload_n X dX2_share_35 rfl ?_
          refine zj_get X in_X2 rfl 0 (by decide) q1141 (fun _ h => h) hM.o rfl (Or.inl (by decide)) dX2_share_36 ?_
          refine zj_irem X dX2_share_39 (nI_ne0 hn0 (by omega)) ?_
          refine zj_top (x' := nI (i % n)) (pk_rem (by omega) (by omega) (by omega)) ?_
          refine zj_istore X dX2_share_40 (by decide) ?_
          refine zj_aload_n X dX2_share_42 rfl ?_
          refine zj_get X in_X2 rfl 2 (by decide) q1143 (fun _ h => h) hM.o rfl (Or.inl (by decide)) dX2_share_43 ?_
          refine zj_iload X dX2_share_46 rfl ?_
          refine zj_zald X (hM.arr 2 rfl) (rfl) (by show _ < 16; omega) (by omega) dX2_share_48 ?_
          refine zj_if_eq (tgt := 72) X dX2_share_49 (by decide) (fun c_49 => ?_) (fun c_49 => ?_)
          · refine zj_iconst (v := (-1)) X dX2_share_72 rfl ?_
            refine zj_istore X dX2_share_73 (by decide) ?_
            refine zj_iload X dX2_share_75 rfl ?_
            refine zj_iconst (v := (-1)) X dX2_share_77 rfl ?_
            refine zj_icmp_eq (tgt := 97) X dX2_share_78 (by decide) (fun c_78 => ?_) (fun c_78 => absurd rfl c_78)
            refine zj_iinc X dX2_share_97 rfl (zi_1 i) (by decide) ?_
            refine zj_goto (tgt := 24) X dX2_share_100 (by decide) ?_
            exact zj_lo (ih_24 (i + 1) _ (by rw [mSh_a c_49]; exact hM) (by rw [mSh_a c_49]; exact h4) (by omega) (by omega)) ⟨rfl, rfl, zi_c (by rw [mSh_a c_49]), rfl, trivial⟩
          · refine zj_aload_n X dX2_share_52 rfl ?_
            refine zj_iload X dX2_share_53 rfl ?_
            refine zj_callVp (n := 1) (As := [_]) X (cm_countReaders l g hM (i % n) hw) hM.o rfl rfl ⟨by decide, by decide, by decide +kernel⟩ (lw_V q1260 q1262 qs26 q50 q1263) ⟨Nat.le_of_ble_eq_true rfl, Nat.le_of_ble_eq_true rfl⟩ rfl rfl (Nat.le_of_ble_eq_true rfl) ⟨Nat.le_of_ble_eq_true rfl, Nat.le_of_ble_eq_true rfl⟩ dX2_share_55 ?_
            refine zj_iload_n X dX2_share_58 rfl ?_
            refine zj_icmp_ge (tgt := 72) X dX2_share_59 (by decide) (fun c_59 => ?_) (fun c_59 => ?_)
            · refine zj_iconst (v := (-1)) X dX2_share_72 rfl ?_
              refine zj_istore X dX2_share_73 (by decide) ?_
              refine zj_iload X dX2_share_75 rfl ?_
              refine zj_iconst (v := (-1)) X dX2_share_77 rfl ?_
              refine zj_icmp_eq (tgt := 97) X dX2_share_78 (by decide) (fun c_78 => ?_) (fun c_78 => absurd rfl c_78)
              refine zj_iinc X dX2_share_97 rfl (zi_1 i) (by decide) ?_
              refine zj_goto (tgt := 24) X dX2_share_100 (by decide) ?_
              exact zj_lo (ih_24 (i + 1) _ (by rw [mSh_b c_59]; exact hM) (by rw [mSh_b c_59]; exact h4) (by omega) (by omega)) ⟨rfl, rfl, zi_c (by rw [mSh_b c_59]), rfl, trivial⟩
            · refine zj_aload_n X dX2_share_62 rfl ?_
              refine zj_iload X dX2_share_63 rfl ?_
              refine zj_iconst (v := 0) X dX2_share_65 rfl ?_
              refine zj_callVp (n := 2) (As := [_, _]) X (cm_choose l g hM (i % n) hw false) hM.o rfl rfl ⟨by decide, by decide, by decide +kernel⟩ (lw_V q1267 q1269 qs27 q50 q1270) ⟨Nat.le_of_ble_eq_true rfl, Nat.le_of_ble_eq_true rfl⟩ rfl rfl (Nat.le_of_ble_eq_true rfl) ⟨Nat.le_of_ble_eq_true rfl, Nat.le_of_ble_eq_true rfl⟩ dX2_share_66 ?_
              refine zj_goto (tgt := 73) X dX2_share_69 (by decide) ?_
              refine zj_istore X dX2_share_73 (by decide) ?_
              refine zj_iload X dX2_share_75 rfl ?_
              refine zj_iconst (v := (-1)) X dX2_share_77 rfl ?_
              refine zj_icmp_eq (tgt := 97) X dX2_share_78 (by decide) (fun c_78 => ?_) (fun c_78 => ?_)
              · have e_q := zo_e (N := n) (by omega) (fun q hq => mCh_lt _ hq) c_78
                refine zj_iinc X dX2_share_97 rfl (zi_1 i) (by decide) ?_
                refine zj_goto (tgt := 24) X dX2_share_100 (by decide) ?_
                exact zj_lo (ih_24 (i + 1) _ (by rw [mSh_d c_49 c_59 e_q]; exact hM) (by rw [mSh_d c_49 c_59 e_q]; exact h4) (by omega) (by omega)) ⟨rfl, rfl, zi_c (by rw [mSh_d c_49 c_59 e_q]), rfl, trivial⟩
              · obtain ⟨q, e_q⟩ := zo_n c_78
                have hq := mCh_lt _ e_q
                refine zj_aload_n X dX2_share_81 rfl ?_
                refine zj_get X in_X2 rfl 7 (by decide) q1148 (fun _ h => h) hM.o rfl (Or.inl (by decide)) dX2_share_82 ?_
                refine zj_iload X dX2_share_85 rfl ?_
                refine zj_top (x' := nI q) (by rw [e_q]; rfl) ?_
                refine zj_iload X dX2_share_87 rfl ?_
                refine zj_callSp (n := 2) (As := [_, _]) X (cm_at l g _ _ _) ⟨by decide, by decide, by decide +kernel⟩ (lw_S q1264 q1265 q50 q1266) ⟨Nat.le_of_ble_eq_true rfl, Nat.le_of_ble_eq_true rfl⟩ rfl rfl (Nat.le_of_ble_eq_true rfl) ⟨Nat.le_of_ble_eq_true rfl, Nat.le_of_ble_eq_true rfl⟩ dX2_share_89 ?_
                refine zj_iconst (v := 1) X dX2_share_92 rfl ?_
                refine zm_za X hM 7 rfl (rfl) (by show _ < 256; omega) (nar_1) dX2_share_93 (fun h9 hM => ?_)
                refine zj_iinc X dX2_share_94 rfl rfl (by decide) ?_
                refine zj_iinc X dX2_share_97 rfl (zi_1 i) (by decide) ?_
                refine zj_goto (tgt := 24) X dX2_share_100 (by decide) ?_
                exact zj_lo (ih_24 (i + 1) _ (by rw [mSh_e c_49 c_59 e_q]; exact hM) (by rw [mSh_e c_49 c_59 e_q]; exact h4) (by omega) (by omega)) ⟨rfl, rfl, zi_c (by rw [mSh_e c_49 c_59 e_q]; rfl), rfl, trivial⟩
    exact zj_lo (L_24 (r * n + 1) 0 _ hM h14 (Nat.zero_le _) (by omega)) ⟨rfl, rfl, rfl, rfl, trivial⟩
  · have e_11 : inB 1 5 x = false := zb_0.mp c_11
    refine zj_aload_n X dX2_share_14 rfl ?_
    refine zj_iconst (v := 1) X dX2_share_15 rfl ?_
    refine zj_callV (n := 1) (As := [_]) X (cm_fail l g hM _) hM.o rfl rfl ⟨by decide, by decide, by decide +kernel⟩ (lw_V q1233 q1235 qs24 q50 q1236) ⟨Nat.le_of_ble_eq_true rfl, Nat.le_of_ble_eq_true rfl⟩ rfl rfl (Nat.le_of_ble_eq_true rfl) ⟨Nat.le_of_ble_eq_true rfl, Nat.le_of_ble_eq_true rfl⟩ dX2_share_16 (fun v_16 h_16 p_16 => ?_)
    obtain ⟨e_16, σ2, hM2, hE2, h142⟩ := p_16
    subst e_16
    have hE2 := hE2.tr hE
    exact zj_iret X hQ (zs_of (by simp [spShare, e_11]) ⟨rfl, σ2, hM2, hE2, h142⟩) rfl (Nat.le_of_ble_eq_true rfl) (Nat.le_of_ble_eq_true rfl) dX2_share_19

def stCal (σ : Nat → Nat → Int32) (j : Nat) (a b : Int32) : Nat → Nat → Int32 := zk (zk σ 4 (upd (σ 4) j (σ 4 j + 1))) 5 (upd (σ 5) j (σ 5 j + zabs (a - b)))
def stCal2 (σ : Nat → Nat → Int32) (j : Nat) (a b : Int32) : Nat → Nat → Int32 := zk (stCal σ j a b) 3 (upd (σ 3) j (mPlain (stCal σ j a b) j))
def spCal (n : Nat) (σ : Nat → Nat → Int32) (x a b : Int32) : zS := if isPB n x = true then (if inB 0 100 a = true ∧ inB 0 100 b = true then (if σ 4 (cN x) = 8 then (3, 0, n, σ) else (0, mPlain (stCal σ (cN x) a b) (cN x), n, stCal2 σ (cN x) a b)) else (2, 0, n, σ)) else (1, 0, n, σ)
theorem stCal_c {σ σ' : Nat → Nat → Int32} (h : mEq σ σ') {j : Nat} {a b : Int32} : mEq (stCal σ j a b) (stCal σ' j a b) := by
  unfold stCal
  rw [h 4 (by decide) (by decide), h 5 (by decide) (by decide)]
  exact (h.zku 4 _).zku 5 _
theorem mCal_st {σ : Nat → Nat → Int32} {n j : Nat} {a b : Int32} (hc : mCal n σ) (hj : j < n) (h8 : ¬ σ 4 j = 8) : mCal n (stCal σ j a b) := by
  intro p hp
  show ∃ c, c ≤ 8 ∧ upd (σ 4) j (σ 4 j + 1) p = nI c
  obtain ⟨c, h1, h2⟩ := hc p hp
  by_cases h : p = j
  · subst h
    refine ⟨c + 1, ?_, by rw [pk_us, h2, nI_1]⟩
    rcases Nat.lt_or_ge c 8 with z | z
    · omega
    · have : c = 8 := by omega
      subst this
      exact absurd h2 h8
  · exact ⟨c, h1, by rw [pk_un h, h2]⟩
theorem stCal2_c {σ σ' : Nat → Nat → Int32} (h : mEq σ σ') {j : Nat} {a b : Int32} : mEq (stCal2 σ j a b) (stCal2 σ' j a b) := by
  unfold stCal2
  rw [h 3 (by decide) (by decide), mPlain_c (stCal_c h)]
  exact (stCal_c h).zku 3 _

set_option maxHeartbeats 4000000 in
theorem cm_calibrate (l : Launch) (g : zz_G) {h0 h : zz_H} {m : Nat} {ad : Nat → Nat} {n : Nat} {σ : Nat → Nat → Int32} (hM : MR h0 h m ad n σ) (hc : mCal n σ) (x a b : Int32) : zz_C l g yX2_calibrate cX2_calibrate 4 (some .int) (zz_rm 3 63 0 0) [.ref m, .int x, .int a, .int b] h (zs h0 m ad (spCal n σ x a b)) := by
  refine zz_C.of (by decide) (Nat.le_of_ble_eq_true rfl) (fun pP eE sS mM aA bB tT cC X Q hQ => ?_)
  have hn := hM.le
  refine zj_aload_n X dX2_calibrate_0 rfl ?_
  refine zj_iconst (v := 0) X dX2_calibrate_1 rfl ?_
  refine zm_th X hM q1155 (fun _ h => h) dX2_calibrate_2 (fun h9 σ1 hM hE h14 => ?_)
  refine zj_aload_n X dX2_calibrate_5 rfl ?_
  refine zj_iload_n X dX2_calibrate_6 rfl ?_
  refine zj_callVp (n := 1) (As := [_]) X (cm_isPerson l g hM _) hM.o rfl rfl ⟨by decide, by decide, by decide +kernel⟩ (lw_V q1218 q1220 qs22 q50 q1221) ⟨Nat.le_of_ble_eq_true rfl, Nat.le_of_ble_eq_true rfl⟩ rfl rfl (Nat.le_of_ble_eq_true rfl) ⟨Nat.le_of_ble_eq_true rfl, Nat.le_of_ble_eq_true rfl⟩ dX2_calibrate_7 ?_
  refine zj_if_ne (tgt := 19) X dX2_calibrate_10 (by decide) (fun c_10 => ?_) (fun c_10 => ?_)
  · have e_10 := zb_n.mp c_10
    obtain ⟨j, hj, rfl⟩ := isPB_t (by omega) e_10
    refine zj_iload_n X dX2_calibrate_19 rfl ?_
    refine zj_callSp (n := 1) (As := [_]) X (cm_isMark l g _ _) ⟨by decide, by decide, by decide +kernel⟩ (lw_S q1241 q1242 q50 q1243) ⟨Nat.le_of_ble_eq_true rfl, Nat.le_of_ble_eq_true rfl⟩ rfl rfl (Nat.le_of_ble_eq_true rfl) ⟨Nat.le_of_ble_eq_true rfl, Nat.le_of_ble_eq_true rfl⟩ dX2_calibrate_20 ?_
    refine zj_if_eq (tgt := 33) X dX2_calibrate_23 (by decide) (fun c_23 => ?_) (fun c_23 => ?_)
    · have e_23 : inB 0 100 a = false := zb_0.mp c_23
      refine zj_aload_n X dX2_calibrate_33 rfl ?_
      refine zj_iconst (v := 2) X dX2_calibrate_34 rfl ?_
      refine zj_callV (n := 1) (As := [_]) X (cm_fail l g hM _) hM.o rfl rfl ⟨by decide, by decide, by decide +kernel⟩ (lw_V q1233 q1235 qs24 q50 q1236) ⟨Nat.le_of_ble_eq_true rfl, Nat.le_of_ble_eq_true rfl⟩ rfl rfl (Nat.le_of_ble_eq_true rfl) ⟨Nat.le_of_ble_eq_true rfl, Nat.le_of_ble_eq_true rfl⟩ dX2_calibrate_35 (fun v_35 h_35 p_35 => ?_)
      obtain ⟨e_35, σ2, hM2, hE2, h142⟩ := p_35
      subst e_35
      have hE2 := hE2.tr hE
      exact zj_iret X hQ (zs_of (by rw [spCal, if_pos e_10, if_neg (by simp [e_23])]) ⟨rfl, σ2, hM2, hE2, h142⟩) rfl (Nat.le_of_ble_eq_true rfl) (Nat.le_of_ble_eq_true rfl) dX2_calibrate_38
    · have e_23 : inB 0 100 a = true := zb_n.mp c_23
      refine zj_iload_n X dX2_calibrate_26 rfl ?_
      refine zj_callSp (n := 1) (As := [_]) X (cm_isMark l g _ _) ⟨by decide, by decide, by decide +kernel⟩ (lw_S q1241 q1242 q50 q1243) ⟨Nat.le_of_ble_eq_true rfl, Nat.le_of_ble_eq_true rfl⟩ rfl rfl (Nat.le_of_ble_eq_true rfl) ⟨Nat.le_of_ble_eq_true rfl, Nat.le_of_ble_eq_true rfl⟩ dX2_calibrate_27 ?_
      refine zj_if_ne (tgt := 39) X dX2_calibrate_30 (by decide) (fun c_30 => ?_) (fun c_30 => ?_)
      · have e_30 : inB 0 100 b = true := zb_n.mp c_30
        refine zj_aload_n X dX2_calibrate_39 rfl ?_
        refine zj_get X in_X2 rfl 4 (by decide) q1145 (fun _ h => h) hM.o rfl (Or.inl (by decide)) dX2_calibrate_40 ?_
        refine zj_iload_n X dX2_calibrate_43 rfl ?_
        refine zj_iald X (hM.arr 4 rfl) (rfl) (by show _ < 16; omega) (by omega) dX2_calibrate_44 ?_
        refine zj_bipush (v := 8) X dX2_calibrate_45 (by decide) ?_
        refine zj_icmp_ne (tgt := 56) X dX2_calibrate_47 (by decide) (fun c_47 => ?_) (fun c_47 => ?_)
        · refine zj_aload_n X dX2_calibrate_56 rfl ?_
          refine zj_get X in_X2 rfl 4 (by decide) q1145 (fun _ h => h) hM.o rfl (Or.inl (by decide)) dX2_calibrate_57 ?_
          refine zj_iload_n X dX2_calibrate_60 rfl ?_
          refine zj_dup2 X dX2_calibrate_61 rfl rfl ?_
          refine zj_iald X (hM.arr 4 rfl) (rfl) (by show _ < 16; omega) (by omega) dX2_calibrate_62 ?_
          refine zj_iconst (v := 1) X dX2_calibrate_63 rfl ?_
          refine zj_iadd X dX2_calibrate_64 ?_
          refine zm_ia X hM 4 rfl (rfl) (by show _ < 16; omega) dX2_calibrate_65 (fun h9 hM => ?_)
          refine zj_aload_n X dX2_calibrate_66 rfl ?_
          refine zj_get X in_X2 rfl 5 (by decide) q1146 (fun _ h => h) hM.o rfl (Or.inl (by decide)) dX2_calibrate_67 ?_
          refine zj_iload_n X dX2_calibrate_70 rfl ?_
          refine zj_dup2 X dX2_calibrate_71 rfl rfl ?_
          refine zj_iald X (hM.arr 5 rfl) (rfl) (by show _ < 16; omega) (by omega) dX2_calibrate_72 ?_
          refine zj_iload_n X dX2_calibrate_73 rfl ?_
          refine zj_iload_n X dX2_calibrate_74 rfl ?_
          refine zj_isub X dX2_calibrate_75 ?_
          refine zj_mabs X q1319 q436 q58 q437 ⟨Nat.le_of_ble_eq_true rfl, Nat.le_of_ble_eq_true rfl⟩ ⟨Nat.le_of_ble_eq_true rfl, Nat.le_of_ble_eq_true rfl⟩ dX2_calibrate_76 ?_
          refine zj_iadd X dX2_calibrate_79 ?_
          refine zm_ia X hM 5 rfl (rfl) (by show _ < 16; omega) dX2_calibrate_80 (fun h9 hM => ?_)
          have hM : MR h0 h9 m ad n (stCal σ1 j a b) := hM
          refine zj_aload_n X dX2_calibrate_81 rfl ?_
          refine zj_get X in_X2 rfl 3 (by decide) q1144 (fun _ h => h) hM.o rfl (Or.inl (by decide)) dX2_calibrate_82 ?_
          refine zj_iload_n X dX2_calibrate_85 rfl ?_
          refine zj_aload_n X dX2_calibrate_86 rfl ?_
          refine zj_iload_n X dX2_calibrate_87 rfl ?_
          refine zj_callVp (n := 1) (As := [_]) X (cm_plainWeight l g (σ := stCal σ1 j a b) hM (mCal_st (mCal_c hE.sym hc) hj c_47) j hj) hM.o rfl rfl ⟨by decide, by decide, by decide +kernel⟩ (lw_V q1320 q1322 qs35 q50 q1323) ⟨Nat.le_of_ble_eq_true rfl, Nat.le_of_ble_eq_true rfl⟩ rfl rfl (Nat.le_of_ble_eq_true rfl) ⟨Nat.le_of_ble_eq_true rfl, Nat.le_of_ble_eq_true rfl⟩ dX2_calibrate_88 ?_
          refine zm_ia X hM 3 rfl (rfl) (by show _ < 16; omega) dX2_calibrate_91 (fun h9 hM => ?_)
          refine zj_aload_n X dX2_calibrate_92 rfl ?_
          refine zj_get X in_X2 rfl 3 (by decide) q1144 (fun _ h => h) hM.o rfl (Or.inl (by decide)) dX2_calibrate_93 ?_
          refine zj_iload_n X dX2_calibrate_96 rfl ?_
          refine zj_iald X (hM.arr 3 rfl) (rfl) (by show _ < 16; omega) (by omega) dX2_calibrate_97 ?_
          exact zj_iret X hQ (zs_of (by rw [spCal, if_pos e_10, if_pos ⟨e_23, e_30⟩, cN_j (show j < 65536 by omega), if_neg (by rw [← hE 4 (by decide) (by decide)]; exact c_47)]) ⟨zi_c (by rw [zk_s, pk_us]; exact mPlain_c (stCal_c hE)), _, hM, stCal2_c hE, h14⟩) rfl (Nat.le_of_ble_eq_true rfl) (Nat.le_of_ble_eq_true rfl) dX2_calibrate_98
        · refine zj_aload_n X dX2_calibrate_50 rfl ?_
          refine zj_iconst (v := 3) X dX2_calibrate_51 rfl ?_
          refine zj_callV (n := 1) (As := [_]) X (cm_fail l g hM _) hM.o rfl rfl ⟨by decide, by decide, by decide +kernel⟩ (lw_V q1233 q1235 qs24 q50 q1236) ⟨Nat.le_of_ble_eq_true rfl, Nat.le_of_ble_eq_true rfl⟩ rfl rfl (Nat.le_of_ble_eq_true rfl) ⟨Nat.le_of_ble_eq_true rfl, Nat.le_of_ble_eq_true rfl⟩ dX2_calibrate_52 (fun v_52 h_52 p_52 => ?_)
          obtain ⟨e_52, σ2, hM2, hE2, h142⟩ := p_52
          subst e_52
          have hE2 := hE2.tr hE
          exact zj_iret X hQ (zs_of (by rw [spCal, if_pos e_10, if_pos ⟨e_23, e_30⟩, cN_j (show j < 65536 by omega), if_pos (by rw [← hE 4 (by decide) (by decide)]; exact c_47)]) ⟨rfl, σ2, hM2, hE2, h142⟩) rfl (Nat.le_of_ble_eq_true rfl) (Nat.le_of_ble_eq_true rfl) dX2_calibrate_55
      · have e_30 : inB 0 100 b = false := zb_0.mp c_30
        refine zj_aload_n X dX2_calibrate_33 rfl ?_
        refine zj_iconst (v := 2) X dX2_calibrate_34 rfl ?_
        refine zj_callV (n := 1) (As := [_]) X (cm_fail l g hM _) hM.o rfl rfl ⟨by decide, by decide, by decide +kernel⟩ (lw_V q1233 q1235 qs24 q50 q1236) ⟨Nat.le_of_ble_eq_true rfl, Nat.le_of_ble_eq_true rfl⟩ rfl rfl (Nat.le_of_ble_eq_true rfl) ⟨Nat.le_of_ble_eq_true rfl, Nat.le_of_ble_eq_true rfl⟩ dX2_calibrate_35 (fun v_35 h_35 p_35 => ?_)
        obtain ⟨e_35, σ2, hM2, hE2, h142⟩ := p_35
        subst e_35
        have hE2 := hE2.tr hE
        exact zj_iret X hQ (zs_of (by rw [spCal, if_pos e_10, if_neg (by simp [e_30])]) ⟨rfl, σ2, hM2, hE2, h142⟩) rfl (Nat.le_of_ble_eq_true rfl) (Nat.le_of_ble_eq_true rfl) dX2_calibrate_38
  · have e_10 := zb_0.mp c_10
    refine zj_aload_n X dX2_calibrate_13 rfl ?_
    refine zj_iconst (v := 1) X dX2_calibrate_14 rfl ?_
    refine zj_callV (n := 1) (As := [_]) X (cm_fail l g hM _) hM.o rfl rfl ⟨by decide, by decide, by decide +kernel⟩ (lw_V q1233 q1235 qs24 q50 q1236) ⟨Nat.le_of_ble_eq_true rfl, Nat.le_of_ble_eq_true rfl⟩ rfl rfl (Nat.le_of_ble_eq_true rfl) ⟨Nat.le_of_ble_eq_true rfl, Nat.le_of_ble_eq_true rfl⟩ dX2_calibrate_15 (fun v_15 h_15 p_15 => ?_)
    obtain ⟨e_15, σ2, hM2, hE2, h142⟩ := p_15
    subst e_15
    have hE2 := hE2.tr hE
    exact zj_iret X hQ (zs_of (by rw [spCal, if_neg (by simp [e_10])]) ⟨rfl, σ2, hM2, hE2, h142⟩) rfl (Nat.le_of_ble_eq_true rfl) (Nat.le_of_ble_eq_true rfl) dX2_calibrate_18

def stRev (σ : Nat → Nat → Int32) (j w : Nat) (k d : Int32) : Nat → Nat → Int32 := zk (zk σ 10 (upd (σ 10) (16 * w + j) k)) 11 (upd (σ 11) (16 * w + j) d)
def spRev (n : Nat) (σ : Nat → Nat → Int32) (x z k d : Int32) : zS := if isPB n x = true ∧ isWB n σ z = true then (if inB 0 100 k = true ∧ inB 0 99 d = true then (if σ 7 (16 * cN z + cN x) = 0 ∨ ¬ σ 10 (16 * cN z + cN x) = -1 then (3, 0, n, σ) else (0, mReviews n (stRev σ (cN x) (cN z) k d) (cN z), n, stRev σ (cN x) (cN z) k d)) else (2, 0, n, σ)) else (1, 0, n, σ)
theorem stRev_c {σ σ' : Nat → Nat → Int32} (h : mEq σ σ') {j w : Nat} {k d : Int32} : mEq (stRev σ j w k d) (stRev σ' j w k d) := by
  unfold stRev
  rw [h 10 (by decide) (by decide), h 11 (by decide) (by decide)]
  exact (h.zku 10 _).zku 11 _

set_option maxHeartbeats 4000000 in
theorem cm_review (l : Launch) (g : zz_G) {h0 h : zz_H} {m : Nat} {ad : Nat → Nat} {n : Nat} {σ : Nat → Nat → Int32} (hM : MR h0 h m ad n σ) (x z k d : Int32) : zz_C l g yX2_review cX2_review 5 (some .int) (zz_rm 4 84 0 0) [.ref m, .int x, .int z, .int k, .int d] h (zs h0 m ad (spRev n σ x z k d)) := by
  refine zz_C.of (by decide) (Nat.le_of_ble_eq_true rfl) (fun pP eE sS mM aA bB tT cC X Q hQ => ?_)
  have hn := hM.le
  refine zj_aload_n X dX2_review_0 rfl ?_
  refine zj_iconst (v := 0) X dX2_review_1 rfl ?_
  refine zm_th X hM q1155 (fun _ h => h) dX2_review_2 (fun h9 σ1 hM hE h14 => ?_)
  refine zj_aload_n X dX2_review_5 rfl ?_
  refine zj_iload_n X dX2_review_6 rfl ?_
  refine zj_callVp (n := 1) (As := [_]) X (cm_isPerson l g hM _) hM.o rfl rfl ⟨by decide, by decide, by decide +kernel⟩ (lw_V q1218 q1220 qs22 q50 q1221) ⟨Nat.le_of_ble_eq_true rfl, Nat.le_of_ble_eq_true rfl⟩ rfl rfl (Nat.le_of_ble_eq_true rfl) ⟨Nat.le_of_ble_eq_true rfl, Nat.le_of_ble_eq_true rfl⟩ dX2_review_7 ?_
  refine zj_if_eq (tgt := 21) X dX2_review_10 (by decide) (fun c_10 => ?_) (fun c_10 => ?_)
  · have e_10 := zb_0.mp c_10
    refine zj_aload_n X dX2_review_21 rfl ?_
    refine zj_iconst (v := 1) X dX2_review_22 rfl ?_
    refine zj_callV (n := 1) (As := [_]) X (cm_fail l g hM _) hM.o rfl rfl ⟨by decide, by decide, by decide +kernel⟩ (lw_V q1233 q1235 qs24 q50 q1236) ⟨Nat.le_of_ble_eq_true rfl, Nat.le_of_ble_eq_true rfl⟩ rfl rfl (Nat.le_of_ble_eq_true rfl) ⟨Nat.le_of_ble_eq_true rfl, Nat.le_of_ble_eq_true rfl⟩ dX2_review_23 (fun v_23 h_23 p_23 => ?_)
    obtain ⟨e_23, σ2, hM2, hE2, h142⟩ := p_23
    subst e_23
    have hE2 := hE2.tr hE
    exact zj_iret X hQ (zs_of (by rw [spRev, if_neg (by simp [e_10])]) ⟨rfl, σ2, hM2, hE2, h142⟩) rfl (Nat.le_of_ble_eq_true rfl) (Nat.le_of_ble_eq_true rfl) dX2_review_26
  · have e_10 := zb_n.mp c_10
    obtain ⟨j, hj, rfl⟩ := isPB_t (by omega) e_10
    refine zj_aload_n X dX2_review_13 rfl ?_
    refine zj_iload_n X dX2_review_14 rfl ?_
    refine zj_callVp (n := 1) (As := [_]) X (cm_isWork l g hM _) hM.o rfl rfl ⟨by decide, by decide, by decide +kernel⟩ (lw_V q1287 q1289 qs31 q50 q1290) ⟨Nat.le_of_ble_eq_true rfl, Nat.le_of_ble_eq_true rfl⟩ rfl rfl (Nat.le_of_ble_eq_true rfl) ⟨Nat.le_of_ble_eq_true rfl, Nat.le_of_ble_eq_true rfl⟩ dX2_review_15 ?_
    refine zj_if_ne (tgt := 27) X dX2_review_18 (by decide) (fun c_18 => ?_) (fun c_18 => ?_)
    · have e_18 := zb_n.mp c_18
      rw [isWB_c hE] at e_18
      obtain ⟨w, hw, rfl, ww⟩ := isWB_t (by omega) e_18
      refine zj_iload_n X dX2_review_27 rfl ?_
      refine zj_callSp (n := 1) (As := [_]) X (cm_isMark l g _ _) ⟨by decide, by decide, by decide +kernel⟩ (lw_S q1241 q1242 q50 q1243) ⟨Nat.le_of_ble_eq_true rfl, Nat.le_of_ble_eq_true rfl⟩ rfl rfl (Nat.le_of_ble_eq_true rfl) ⟨Nat.le_of_ble_eq_true rfl, Nat.le_of_ble_eq_true rfl⟩ dX2_review_28 ?_
      refine zj_if_eq (tgt := 42) X dX2_review_31 (by decide) (fun c_31 => ?_) (fun c_31 => ?_)
      · have e_31 : inB 0 100 k = false := zb_0.mp c_31
        refine zj_aload_n X dX2_review_42 rfl ?_
        refine zj_iconst (v := 2) X dX2_review_43 rfl ?_
        refine zj_callV (n := 1) (As := [_]) X (cm_fail l g hM _) hM.o rfl rfl ⟨by decide, by decide, by decide +kernel⟩ (lw_V q1233 q1235 qs24 q50 q1236) ⟨Nat.le_of_ble_eq_true rfl, Nat.le_of_ble_eq_true rfl⟩ rfl rfl (Nat.le_of_ble_eq_true rfl) ⟨Nat.le_of_ble_eq_true rfl, Nat.le_of_ble_eq_true rfl⟩ dX2_review_44 (fun v_44 h_44 p_44 => ?_)
        obtain ⟨e_44, σ2, hM2, hE2, h142⟩ := p_44
        subst e_44
        have hE2 := hE2.tr hE
        exact zj_iret X hQ (zs_of (by rw [spRev, if_pos ⟨e_10, e_18⟩, if_neg (by simp [e_31])]) ⟨rfl, σ2, hM2, hE2, h142⟩) rfl (Nat.le_of_ble_eq_true rfl) (Nat.le_of_ble_eq_true rfl) dX2_review_47
      · have e_31 : inB 0 100 k = true := zb_n.mp c_31
        refine zj_iload X dX2_review_34 rfl ?_
        refine zj_callSp (n := 1) (As := [_]) X (cm_isDay l g _ _) ⟨by decide, by decide, by decide +kernel⟩ (lw_S q1230 q1231 q50 q1232) ⟨Nat.le_of_ble_eq_true rfl, Nat.le_of_ble_eq_true rfl⟩ rfl rfl (Nat.le_of_ble_eq_true rfl) ⟨Nat.le_of_ble_eq_true rfl, Nat.le_of_ble_eq_true rfl⟩ dX2_review_36 ?_
        refine zj_if_ne (tgt := 48) X dX2_review_39 (by decide) (fun c_39 => ?_) (fun c_39 => ?_)
        · have e_39 : inB 0 99 d = true := zb_n.mp c_39
          refine zj_aload_n X dX2_review_48 rfl ?_
          refine zj_get X in_X2 rfl 7 (by decide) q1148 (fun _ h => h) hM.o rfl (Or.inl (by decide)) dX2_review_49 ?_
          refine zj_iload_n X dX2_review_52 rfl ?_
          refine zj_iload_n X dX2_review_53 rfl ?_
          refine zj_callSp (n := 2) (As := [_, _]) X (cm_at l g _ _ _) ⟨by decide, by decide, by decide +kernel⟩ (lw_S q1264 q1265 q50 q1266) ⟨Nat.le_of_ble_eq_true rfl, Nat.le_of_ble_eq_true rfl⟩ rfl rfl (Nat.le_of_ble_eq_true rfl) ⟨Nat.le_of_ble_eq_true rfl, Nat.le_of_ble_eq_true rfl⟩ dX2_review_54 ?_
          refine zj_zald X (hM.arr 7 rfl) (rfl) (by show _ < 256; omega) (by omega) dX2_review_57 ?_
          refine zj_if_eq (tgt := 75) X dX2_review_58 (by decide) (fun c_58 => ?_) (fun c_58 => ?_)
          · have e_58 := c_58
            rw [hE 7 (by decide) (by decide)] at e_58
            refine zj_aload_n X dX2_review_75 rfl ?_
            refine zj_iconst (v := 3) X dX2_review_76 rfl ?_
            refine zj_callV (n := 1) (As := [_]) X (cm_fail l g hM _) hM.o rfl rfl ⟨by decide, by decide, by decide +kernel⟩ (lw_V q1233 q1235 qs24 q50 q1236) ⟨Nat.le_of_ble_eq_true rfl, Nat.le_of_ble_eq_true rfl⟩ rfl rfl (Nat.le_of_ble_eq_true rfl) ⟨Nat.le_of_ble_eq_true rfl, Nat.le_of_ble_eq_true rfl⟩ dX2_review_77 (fun v_77 h_77 p_77 => ?_)
            obtain ⟨e_77, σ2, hM2, hE2, h142⟩ := p_77
            subst e_77
            have hE2 := hE2.tr hE
            exact zj_iret X hQ (zs_of (by rw [spRev, if_pos ⟨e_10, e_18⟩, if_pos ⟨e_31, e_39⟩, cN_j (show j < 65536 by omega), cN_j (show w < 65536 by omega), if_pos (Or.inl e_58)]) ⟨rfl, σ2, hM2, hE2, h142⟩) rfl (Nat.le_of_ble_eq_true rfl) (Nat.le_of_ble_eq_true rfl) dX2_review_80
          · have e_58 := c_58
            rw [hE 7 (by decide) (by decide)] at e_58
            refine zj_aload_n X dX2_review_61 rfl ?_
            refine zj_get X in_X2 rfl 10 (by decide) q1151 (fun _ h => h) hM.o rfl (Or.inl (by decide)) dX2_review_62 ?_
            refine zj_iload_n X dX2_review_65 rfl ?_
            refine zj_iload_n X dX2_review_66 rfl ?_
            refine zj_callSp (n := 2) (As := [_, _]) X (cm_at l g _ _ _) ⟨by decide, by decide, by decide +kernel⟩ (lw_S q1264 q1265 q50 q1266) ⟨Nat.le_of_ble_eq_true rfl, Nat.le_of_ble_eq_true rfl⟩ rfl rfl (Nat.le_of_ble_eq_true rfl) ⟨Nat.le_of_ble_eq_true rfl, Nat.le_of_ble_eq_true rfl⟩ dX2_review_67 ?_
            refine zj_iald X (hM.arr 10 rfl) (rfl) (by show _ < 256; omega) (by omega) dX2_review_70 ?_
            refine zj_iconst (v := (-1)) X dX2_review_71 rfl ?_
            refine zj_icmp_eq (tgt := 81) X dX2_review_72 (by decide) (fun c_72 => ?_) (fun c_72 => ?_)
            · have e_72 := c_72
              rw [hE 10 (by decide) (by decide)] at e_72
              refine zj_aload_n X dX2_review_81 rfl ?_
              refine zj_get X in_X2 rfl 10 (by decide) q1151 (fun _ h => h) hM.o rfl (Or.inl (by decide)) dX2_review_82 ?_
              refine zj_iload_n X dX2_review_85 rfl ?_
              refine zj_iload_n X dX2_review_86 rfl ?_
              refine zj_callSp (n := 2) (As := [_, _]) X (cm_at l g _ _ _) ⟨by decide, by decide, by decide +kernel⟩ (lw_S q1264 q1265 q50 q1266) ⟨Nat.le_of_ble_eq_true rfl, Nat.le_of_ble_eq_true rfl⟩ rfl rfl (Nat.le_of_ble_eq_true rfl) ⟨Nat.le_of_ble_eq_true rfl, Nat.le_of_ble_eq_true rfl⟩ dX2_review_87 ?_
              refine zj_iload_n X dX2_review_90 rfl ?_
              refine zm_ia X hM 10 rfl (rfl) (by show _ < 256; omega) dX2_review_91 (fun h9 hM => ?_)
              refine zj_aload_n X dX2_review_92 rfl ?_
              refine zj_get X in_X2 rfl 11 (by decide) q1152 (fun _ h => h) hM.o rfl (Or.inl (by decide)) dX2_review_93 ?_
              refine zj_iload_n X dX2_review_96 rfl ?_
              refine zj_iload_n X dX2_review_97 rfl ?_
              refine zj_callSp (n := 2) (As := [_, _]) X (cm_at l g _ _ _) ⟨by decide, by decide, by decide +kernel⟩ (lw_S q1264 q1265 q50 q1266) ⟨Nat.le_of_ble_eq_true rfl, Nat.le_of_ble_eq_true rfl⟩ rfl rfl (Nat.le_of_ble_eq_true rfl) ⟨Nat.le_of_ble_eq_true rfl, Nat.le_of_ble_eq_true rfl⟩ dX2_review_98 ?_
              refine zj_iload X dX2_review_101 rfl ?_
              refine zm_ia X hM 11 rfl (rfl) (by show _ < 256; omega) dX2_review_103 (fun h9 hM => ?_)
              have hM : MR h0 h9 m ad n (stRev σ1 j w k d) := hM
              refine zj_aload_n X dX2_review_104 rfl ?_
              refine zj_iload_n X dX2_review_105 rfl ?_
              refine zj_callVp (n := 1) (As := [_]) X (cm_countReviews l g hM w hw) hM.o rfl rfl ⟨by decide, by decide, by decide +kernel⟩ (lw_V q1364 q1366 qs43 q50 q1367) ⟨Nat.le_of_ble_eq_true rfl, Nat.le_of_ble_eq_true rfl⟩ rfl rfl (Nat.le_of_ble_eq_true rfl) ⟨Nat.le_of_ble_eq_true rfl, Nat.le_of_ble_eq_true rfl⟩ dX2_review_106 ?_
              exact zj_iret X hQ (zs_of (by rw [spRev, if_pos ⟨e_10, e_18⟩, if_pos ⟨e_31, e_39⟩, cN_j (show j < 65536 by omega), cN_j (show w < 65536 by omega), if_neg (fun q => q.elim e_58 (fun q => q e_72))]) ⟨zi_c (mReviews_c (stRev_c hE)), _, hM, stRev_c hE, h14⟩) rfl (Nat.le_of_ble_eq_true rfl) (Nat.le_of_ble_eq_true rfl) dX2_review_109
            · have e_72 := c_72
              rw [hE 10 (by decide) (by decide)] at e_72
              refine zj_aload_n X dX2_review_75 rfl ?_
              refine zj_iconst (v := 3) X dX2_review_76 rfl ?_
              refine zj_callV (n := 1) (As := [_]) X (cm_fail l g hM _) hM.o rfl rfl ⟨by decide, by decide, by decide +kernel⟩ (lw_V q1233 q1235 qs24 q50 q1236) ⟨Nat.le_of_ble_eq_true rfl, Nat.le_of_ble_eq_true rfl⟩ rfl rfl (Nat.le_of_ble_eq_true rfl) ⟨Nat.le_of_ble_eq_true rfl, Nat.le_of_ble_eq_true rfl⟩ dX2_review_77 (fun v_77 h_77 p_77 => ?_)
              obtain ⟨e_77, σ2, hM2, hE2, h142⟩ := p_77
              subst e_77
              have hE2 := hE2.tr hE
              exact zj_iret X hQ (zs_of (by rw [spRev, if_pos ⟨e_10, e_18⟩, if_pos ⟨e_31, e_39⟩, cN_j (show j < 65536 by omega), cN_j (show w < 65536 by omega), if_pos (Or.inr e_72)]) ⟨rfl, σ2, hM2, hE2, h142⟩) rfl (Nat.le_of_ble_eq_true rfl) (Nat.le_of_ble_eq_true rfl) dX2_review_80
        · have e_39 : inB 0 99 d = false := zb_0.mp c_39
          refine zj_aload_n X dX2_review_42 rfl ?_
          refine zj_iconst (v := 2) X dX2_review_43 rfl ?_
          refine zj_callV (n := 1) (As := [_]) X (cm_fail l g hM _) hM.o rfl rfl ⟨by decide, by decide, by decide +kernel⟩ (lw_V q1233 q1235 qs24 q50 q1236) ⟨Nat.le_of_ble_eq_true rfl, Nat.le_of_ble_eq_true rfl⟩ rfl rfl (Nat.le_of_ble_eq_true rfl) ⟨Nat.le_of_ble_eq_true rfl, Nat.le_of_ble_eq_true rfl⟩ dX2_review_44 (fun v_44 h_44 p_44 => ?_)
          obtain ⟨e_44, σ2, hM2, hE2, h142⟩ := p_44
          subst e_44
          have hE2 := hE2.tr hE
          exact zj_iret X hQ (zs_of (by rw [spRev, if_pos ⟨e_10, e_18⟩, if_neg (by simp [e_39])]) ⟨rfl, σ2, hM2, hE2, h142⟩) rfl (Nat.le_of_ble_eq_true rfl) (Nat.le_of_ble_eq_true rfl) dX2_review_47
    · have e_18 := zb_0.mp c_18
      rw [isWB_c hE] at e_18
      refine zj_aload_n X dX2_review_21 rfl ?_
      refine zj_iconst (v := 1) X dX2_review_22 rfl ?_
      refine zj_callV (n := 1) (As := [_]) X (cm_fail l g hM _) hM.o rfl rfl ⟨by decide, by decide, by decide +kernel⟩ (lw_V q1233 q1235 qs24 q50 q1236) ⟨Nat.le_of_ble_eq_true rfl, Nat.le_of_ble_eq_true rfl⟩ rfl rfl (Nat.le_of_ble_eq_true rfl) ⟨Nat.le_of_ble_eq_true rfl, Nat.le_of_ble_eq_true rfl⟩ dX2_review_23 (fun v_23 h_23 p_23 => ?_)
      obtain ⟨e_23, σ2, hM2, hE2, h142⟩ := p_23
      subst e_23
      have hE2 := hE2.tr hE
      exact zj_iret X hQ (zs_of (by rw [spRev, if_neg (by simp [e_18])]) ⟨rfl, σ2, hM2, hE2, h142⟩) rfl (Nat.le_of_ble_eq_true rfl) (Nat.le_of_ble_eq_true rfl) dX2_review_26

def mOut (n : Nat) (σ : Nat → Nat → Int32) (w p : Nat) : Bool := decide (σ 10 (16 * w + p) ≠ -1) && !(mNear σ p w (mMed n σ w 0 100) (mAllow n σ w))
theorem mOut_c {n : Nat} {σ σ' : Nat → Nat → Int32} (h : mEq σ σ') {w p : Nat} : mOut n σ w p = mOut n σ' w p := by
  simp only [mOut, h 10 (by decide) (by decide), mNear_c h, mMed_c h, mAllow_c h]
def spOut (n : Nat) (σ : Nat → Nat → Int32) (x : Int32) : zS := if isWB n σ x = true then (0, zor (fun p => if mOut n σ (cN x) p = true then bitA p else 0) n, n, σ) else (1, 0, n, σ)

set_option maxHeartbeats 4000000 in
theorem cm_outliers (l : Launch) (g : zz_G) {h0 h : zz_H} {m : Nat} {ad : Nat → Nat} {n : Nat} {σ : Nat → Nat → Int32} (hM : MR h0 h m ad n σ) (x : Int32) : zz_C l g yX2_outliers cX2_outliers 6 (some .int) (zz_rm 5 121 0 0) [.ref m, .int x] h (zs h0 m ad (spOut n σ x)) := by
  refine zz_C.of (by decide) (Nat.le_of_ble_eq_true rfl) (fun pP eE sS mM aA bB tT cC X Q hQ => ?_)
  have hn := hM.le
  refine zj_aload_n X dX2_outliers_0 rfl ?_
  refine zj_iconst (v := 0) X dX2_outliers_1 rfl ?_
  refine zm_th X hM q1155 (fun _ h => h) dX2_outliers_2 (fun h9 σ1 hM hE h14 => ?_)
  refine zj_aload_n X dX2_outliers_5 rfl ?_
  refine zj_iload_n X dX2_outliers_6 rfl ?_
  refine zj_callVp (n := 1) (As := [_]) X (cm_isWork l g hM _) hM.o rfl rfl ⟨by decide, by decide, by decide +kernel⟩ (lw_V q1287 q1289 qs31 q50 q1290) ⟨Nat.le_of_ble_eq_true rfl, Nat.le_of_ble_eq_true rfl⟩ rfl rfl (Nat.le_of_ble_eq_true rfl) ⟨Nat.le_of_ble_eq_true rfl, Nat.le_of_ble_eq_true rfl⟩ dX2_outliers_7 ?_
  refine zj_if_ne (tgt := 19) X dX2_outliers_10 (by decide) (fun c_10 => ?_) (fun c_10 => ?_)
  · have e_10 := zb_n.mp c_10
    rw [isWB_c hE] at e_10
    obtain ⟨j, hj, rfl, wj⟩ := isWB_t (by omega) e_10
    refine zj_aload_n X dX2_outliers_19 rfl ?_
    refine zj_iload_n X dX2_outliers_20 rfl ?_
    refine zj_iconst (v := 0) X dX2_outliers_21 rfl ?_
    refine zj_bipush (v := 100) X dX2_outliers_22 (by decide) ?_
    refine zj_callVp (n := 3) (As := [_, _, _]) X (cm_median l g hM j hj _ _) hM.o rfl rfl ⟨by decide, by decide, by decide +kernel⟩ (lw_V q1344 q1346 qs38 q50 q1347) ⟨Nat.le_of_ble_eq_true rfl, Nat.le_of_ble_eq_true rfl⟩ rfl rfl (Nat.le_of_ble_eq_true rfl) ⟨Nat.le_of_ble_eq_true rfl, Nat.le_of_ble_eq_true rfl⟩ dX2_outliers_24 ?_
    refine zj_istore_n X dX2_outliers_27 (by decide) ?_
    refine zj_iconst (v := 0) X dX2_outliers_28 rfl ?_
    refine zj_istore_n X dX2_outliers_29 (by decide) ?_
    refine zj_iconst (v := 0) X dX2_outliers_30 rfl ?_
    refine zj_istore X dX2_outliers_31 (by decide) ?_
    have L_33 : ∀ k_33 : Nat, ∀ (i : Nat), i ≤ n → n < i + k_33 → zz_J pP l eE (zz_rm 5 121 0 0) sS mM aA bB tT cC g 6 Q h9 0 0 33 [(0, .ref m), (1, .int (nI j)), (2, .int (mMed n σ1 j 0 100)), (3, .int (zor (fun p => if mOut n σ1 j p = true then bitA p else 0) i)), (4, .int (nI i))] [] := by
      intro k_33
      induction k_33 with
      | zero =>
        intro i h1 h2
        omega
      | succ k_33 ih_33 =>
        intro i h1 h2
        refine zj_iload X dX2_outliers_33 rfl ?_
        refine zj_aload_n X dX2_outliers_35 rfl ?_
        refine zj_get X in_X2 rfl 0 (by decide) q1141 (fun _ h => h) hM.o rfl (Or.inl (by decide)) dX2_outliers_36 ?_
        refine zj_icmp_ge (tgt := 102) X dX2_outliers_39 (by decide) (fun c_39 => ?_) (fun c_39 => ?_)
        · have e_39 := zi_ge h1 (by omega) c_39
          refine zj_iload_n X dX2_outliers_102 rfl ?_
          exact zj_iret X hQ (zs_of (by rw [spOut, if_pos e_10, cN_j (show j < 65536 by omega)]) ⟨zi_c (by simp only [e_39, mOut_c hE]), σ1, hM, hE, h14⟩) rfl (Nat.le_of_ble_eq_true rfl) (Nat.le_of_ble_eq_true rfl) dX2_outliers_103
        · have e_39 := zi_lt h1 (by omega) c_39
          refine zj_aload_n X dX2_outliers_42 rfl ?_
          refine zj_get X in_X2 rfl 10 (by decide) q1151 (fun _ h => h) hM.o rfl (Or.inl (by decide)) dX2_outliers_43 ?_
          refine zj_iload X dX2_outliers_46 rfl ?_
          refine zj_iload_n X dX2_outliers_48 rfl ?_
          refine zj_callSp (n := 2) (As := [_, _]) X (cm_at l g _ _ _) ⟨by decide, by decide, by decide +kernel⟩ (lw_S q1264 q1265 q50 q1266) ⟨Nat.le_of_ble_eq_true rfl, Nat.le_of_ble_eq_true rfl⟩ rfl rfl (Nat.le_of_ble_eq_true rfl) ⟨Nat.le_of_ble_eq_true rfl, Nat.le_of_ble_eq_true rfl⟩ dX2_outliers_49 ?_
          refine zj_iald X (hM.arr 10 rfl) (rfl) (by show _ < 256; omega) (by omega) dX2_outliers_52 ?_
          refine zj_iconst (v := (-1)) X dX2_outliers_53 rfl ?_
          refine zj_icmp_eq (tgt := 77) X dX2_outliers_54 (by decide) (fun c_54 => ?_) (fun c_54 => ?_)
          · refine zj_iconst (v := 0) X dX2_outliers_77 rfl ?_
            refine zj_istore X dX2_outliers_78 (by decide) ?_
            refine zj_iload_n X dX2_outliers_80 rfl ?_
            refine zj_iload X dX2_outliers_81 rfl ?_
            refine zj_if_eq (tgt := 93) X dX2_outliers_83 (by decide) (fun c_83 => ?_) (fun c_83 => absurd (by decide) c_83)
            refine zj_iconst (v := 0) X dX2_outliers_93 rfl ?_
            refine zj_ior X dX2_outliers_94 ?_
            refine zj_istore_n X dX2_outliers_95 (by decide) ?_
            refine zj_iinc X dX2_outliers_96 rfl (zi_1 i) (by decide) ?_
            refine zj_goto (tgt := 33) X dX2_outliers_99 (by decide) ?_
            exact zj_lo (ih_33 (i + 1) (by omega) (by omega)) ⟨rfl, rfl, rfl, zi_c (by simp [zor, bitA, mOut, c_54]), rfl, trivial⟩
          · refine zj_aload_n X dX2_outliers_57 rfl ?_
            refine zj_iload X dX2_outliers_58 rfl ?_
            refine zj_iload_n X dX2_outliers_60 rfl ?_
            refine zj_iload_n X dX2_outliers_61 rfl ?_
            refine zj_aload_n X dX2_outliers_62 rfl ?_
            refine zj_iload_n X dX2_outliers_63 rfl ?_
            refine zj_callVp (n := 1) (As := [_]) X (cm_allowed l g hM j hj) hM.o rfl rfl ⟨by decide, by decide, by decide +kernel⟩ (lw_V q1360 q1362 qs42 q50 q1363) ⟨Nat.le_of_ble_eq_true rfl, Nat.le_of_ble_eq_true rfl⟩ rfl rfl (Nat.le_of_ble_eq_true rfl) ⟨Nat.le_of_ble_eq_true rfl, Nat.le_of_ble_eq_true rfl⟩ dX2_outliers_64 ?_
            refine zj_callVp (n := 4) (As := [_, _, _, _]) X (cm_isNear l g hM i j e_39 hj _ _) hM.o rfl rfl ⟨by decide, by decide, by decide +kernel⟩ (lw_V q1348 q1350 qs39 q50 q1351) ⟨Nat.le_of_ble_eq_true rfl, Nat.le_of_ble_eq_true rfl⟩ rfl rfl (Nat.le_of_ble_eq_true rfl) ⟨Nat.le_of_ble_eq_true rfl, Nat.le_of_ble_eq_true rfl⟩ dX2_outliers_67 ?_
            refine zj_if_ne (tgt := 77) X dX2_outliers_70 (by decide) (fun c_70 => ?_) (fun c_70 => ?_)
            · have e_70 := zb_n.mp c_70
              refine zj_iconst (v := 0) X dX2_outliers_77 rfl ?_
              refine zj_istore X dX2_outliers_78 (by decide) ?_
              refine zj_iload_n X dX2_outliers_80 rfl ?_
              refine zj_iload X dX2_outliers_81 rfl ?_
              refine zj_if_eq (tgt := 93) X dX2_outliers_83 (by decide) (fun c_83 => ?_) (fun c_83 => absurd (by decide) c_83)
              refine zj_iconst (v := 0) X dX2_outliers_93 rfl ?_
              refine zj_ior X dX2_outliers_94 ?_
              refine zj_istore_n X dX2_outliers_95 (by decide) ?_
              refine zj_iinc X dX2_outliers_96 rfl (zi_1 i) (by decide) ?_
              refine zj_goto (tgt := 33) X dX2_outliers_99 (by decide) ?_
              exact zj_lo (ih_33 (i + 1) (by omega) (by omega)) ⟨rfl, rfl, rfl, zi_c (by simp [zor, bitA, mOut, c_54, e_70]), rfl, trivial⟩
            · have e_70 := zb_0.mp c_70
              refine zj_iconst (v := 1) X dX2_outliers_73 rfl ?_
              refine zj_goto (tgt := 78) X dX2_outliers_74 (by decide) ?_
              refine zj_istore X dX2_outliers_78 (by decide) ?_
              refine zj_iload_n X dX2_outliers_80 rfl ?_
              refine zj_iload X dX2_outliers_81 rfl ?_
              refine zj_if_eq (tgt := 93) X dX2_outliers_83 (by decide) (fun c_83 => absurd c_83 (by decide)) (fun c_83 => ?_)
              refine zj_iconst (v := 1) X dX2_outliers_86 rfl ?_
              refine zj_iload X dX2_outliers_87 rfl ?_
              refine zj_ishl X dX2_outliers_89 ?_
              refine zj_goto (tgt := 94) X dX2_outliers_90 (by decide) ?_
              refine zj_ior X dX2_outliers_94 ?_
              refine zj_istore_n X dX2_outliers_95 (by decide) ?_
              refine zj_iinc X dX2_outliers_96 rfl (zi_1 i) (by decide) ?_
              refine zj_goto (tgt := 33) X dX2_outliers_99 (by decide) ?_
              exact zj_lo (ih_33 (i + 1) (by omega) (by omega)) ⟨rfl, rfl, rfl, zi_c (by simp [zor, bitA, mOut, c_54, e_70]), rfl, trivial⟩
    exact zj_lo (L_33 (n + 1) 0 (Nat.zero_le _) (by omega)) ⟨rfl, rfl, rfl, rfl, rfl, trivial⟩
  · have e_10 := zb_0.mp c_10
    rw [isWB_c hE] at e_10
    refine zj_aload_n X dX2_outliers_13 rfl ?_
    refine zj_iconst (v := 1) X dX2_outliers_14 rfl ?_
    refine zj_callV (n := 1) (As := [_]) X (cm_fail l g hM _) hM.o rfl rfl ⟨by decide, by decide, by decide +kernel⟩ (lw_V q1233 q1235 qs24 q50 q1236) ⟨Nat.le_of_ble_eq_true rfl, Nat.le_of_ble_eq_true rfl⟩ rfl rfl (Nat.le_of_ble_eq_true rfl) ⟨Nat.le_of_ble_eq_true rfl, Nat.le_of_ble_eq_true rfl⟩ dX2_outliers_15 (fun v_15 h_15 p_15 => ?_)
    obtain ⟨e_15, σ2, hM2, hE2, h142⟩ := p_15
    subst e_15
    have hE2 := hE2.tr hE
    exact zj_iret X hQ (zs_of (by rw [spOut, if_neg (by simp [e_10])]) ⟨rfl, σ2, hM2, hE2, h142⟩) rfl (Nat.le_of_ble_eq_true rfl) (Nat.le_of_ble_eq_true rfl) dX2_outliers_18

def stDrop (σ : Nat → Nat → Int32) (j w : Nat) : Nat → Nat → Int32 := zk (zk (zk σ 7 (upd (σ 7) (16 * w + j) 0)) 9 (upd (σ 9) (16 * w + j) 0)) 8 (upd (σ 8) (16 * w + j) 1)
/-- one reader more, if there is one -/
def stRd (σ : Nat → Nat → Int32) (w : Nat) (r : Option Nat) : Nat → Nat → Int32 := match r with
  | none => σ
  | some q => zk σ 7 (upd (σ 7) (16 * w + q) 1)
def spRepl (n : Nat) (σ : Nat → Nat → Int32) (x z d : Int32) : zS := if isPB n x = true ∧ isWB n σ z = true then (if inB 0 99 d = true then (if σ 7 (16 * cN z + cN x) = 0 ∨ ¬ σ 10 (16 * cN z + cN x) = -1 ∨ d ≤ σ 12 0 then (3, 0, n, σ) else (0, zo (mCh false n (stDrop σ (cN x) (cN z)) (cN z) n), n, stRd (stDrop σ (cN x) (cN z)) (cN z) (mCh false n (stDrop σ (cN x) (cN z)) (cN z) n))) else (2, 0, n, σ)) else (1, 0, n, σ)
theorem stDrop_c {σ σ' : Nat → Nat → Int32} (h : mEq σ σ') {j w : Nat} : mEq (stDrop σ j w) (stDrop σ' j w) := by
  unfold stDrop
  rw [h 7 (by decide) (by decide), h 8 (by decide) (by decide), h 9 (by decide) (by decide)]
  exact ((h.zku 7 _).zku 9 _).zku 8 _
theorem stRd_c {σ σ' : Nat → Nat → Int32} (h : mEq σ σ') {w : Nat} {r : Option Nat} : mEq (stRd σ w r) (stRd σ' w r) := by
  cases r with
  | none => exact h
  | some q => exact h.st (by decide) (by decide) rfl

set_option maxHeartbeats 4000000 in
theorem cm_replace (l : Launch) (g : zz_G) {h0 h : zz_H} {m : Nat} {ad : Nat → Nat} {n : Nat} {σ : Nat → Nat → Int32} (hM : MR h0 h m ad n σ) (x z d : Int32) : zz_C l g yX2_replace cX2_replace 6 (some .int) (zz_rm 4 90 0 0) [.ref m, .int x, .int z, .int d] h (zs h0 m ad (spRepl n σ x z d)) := by
  refine zz_C.of (by decide) (Nat.le_of_ble_eq_true rfl) (fun pP eE sS mM aA bB tT cC X Q hQ => ?_)
  have hn := hM.le
  refine zj_aload_n X dX2_replace_0 rfl ?_
  refine zj_iconst (v := 0) X dX2_replace_1 rfl ?_
  refine zm_th X hM q1155 (fun _ h => h) dX2_replace_2 (fun h9 σ1 hM hE h14 => ?_)
  refine zj_aload_n X dX2_replace_5 rfl ?_
  refine zj_iload_n X dX2_replace_6 rfl ?_
  refine zj_callVp (n := 1) (As := [_]) X (cm_isPerson l g hM _) hM.o rfl rfl ⟨by decide, by decide, by decide +kernel⟩ (lw_V q1218 q1220 qs22 q50 q1221) ⟨Nat.le_of_ble_eq_true rfl, Nat.le_of_ble_eq_true rfl⟩ rfl rfl (Nat.le_of_ble_eq_true rfl) ⟨Nat.le_of_ble_eq_true rfl, Nat.le_of_ble_eq_true rfl⟩ dX2_replace_7 ?_
  refine zj_if_eq (tgt := 21) X dX2_replace_10 (by decide) (fun c_10 => ?_) (fun c_10 => ?_)
  · have e_10 := zb_0.mp c_10
    refine zj_aload_n X dX2_replace_21 rfl ?_
    refine zj_iconst (v := 1) X dX2_replace_22 rfl ?_
    refine zj_callV (n := 1) (As := [_]) X (cm_fail l g hM _) hM.o rfl rfl ⟨by decide, by decide, by decide +kernel⟩ (lw_V q1233 q1235 qs24 q50 q1236) ⟨Nat.le_of_ble_eq_true rfl, Nat.le_of_ble_eq_true rfl⟩ rfl rfl (Nat.le_of_ble_eq_true rfl) ⟨Nat.le_of_ble_eq_true rfl, Nat.le_of_ble_eq_true rfl⟩ dX2_replace_23 (fun v_23 h_23 p_23 => ?_)
    obtain ⟨e_23, σ2, hM2, hE2, h142⟩ := p_23
    subst e_23
    have hE2 := hE2.tr hE
    exact zj_iret X hQ (zs_of (by rw [spRepl, if_neg (by simp [e_10])]) ⟨rfl, σ2, hM2, hE2, h142⟩) rfl (Nat.le_of_ble_eq_true rfl) (Nat.le_of_ble_eq_true rfl) dX2_replace_26
  · have e_10 := zb_n.mp c_10
    obtain ⟨j, hj, rfl⟩ := isPB_t (by omega) e_10
    refine zj_aload_n X dX2_replace_13 rfl ?_
    refine zj_iload_n X dX2_replace_14 rfl ?_
    refine zj_callVp (n := 1) (As := [_]) X (cm_isWork l g hM _) hM.o rfl rfl ⟨by decide, by decide, by decide +kernel⟩ (lw_V q1287 q1289 qs31 q50 q1290) ⟨Nat.le_of_ble_eq_true rfl, Nat.le_of_ble_eq_true rfl⟩ rfl rfl (Nat.le_of_ble_eq_true rfl) ⟨Nat.le_of_ble_eq_true rfl, Nat.le_of_ble_eq_true rfl⟩ dX2_replace_15 ?_
    refine zj_if_ne (tgt := 27) X dX2_replace_18 (by decide) (fun c_18 => ?_) (fun c_18 => ?_)
    · have e_18 := zb_n.mp c_18
      rw [isWB_c hE] at e_18
      obtain ⟨w, hw, rfl, ww⟩ := isWB_t (by omega) e_18
      refine zj_iload_n X dX2_replace_27 rfl ?_
      refine zj_callSp (n := 1) (As := [_]) X (cm_isDay l g _ _) ⟨by decide, by decide, by decide +kernel⟩ (lw_S q1230 q1231 q50 q1232) ⟨Nat.le_of_ble_eq_true rfl, Nat.le_of_ble_eq_true rfl⟩ rfl rfl (Nat.le_of_ble_eq_true rfl) ⟨Nat.le_of_ble_eq_true rfl, Nat.le_of_ble_eq_true rfl⟩ dX2_replace_28 ?_
      refine zj_if_ne (tgt := 40) X dX2_replace_31 (by decide) (fun c_31 => ?_) (fun c_31 => ?_)
      · have e_31 : inB 0 99 d = true := zb_n.mp c_31
        refine zj_iload_n X dX2_replace_40 rfl ?_
        refine zj_iload_n X dX2_replace_41 rfl ?_
        refine zj_callSp (n := 2) (As := [_, _]) X (cm_at l g _ _ _) ⟨by decide, by decide, by decide +kernel⟩ (lw_S q1264 q1265 q50 q1266) ⟨Nat.le_of_ble_eq_true rfl, Nat.le_of_ble_eq_true rfl⟩ rfl rfl (Nat.le_of_ble_eq_true rfl) ⟨Nat.le_of_ble_eq_true rfl, Nat.le_of_ble_eq_true rfl⟩ dX2_replace_42 ?_
        refine zj_istore X dX2_replace_45 (by decide) ?_
        refine zj_aload_n X dX2_replace_47 rfl ?_
        refine zj_get X in_X2 rfl 7 (by decide) q1148 (fun _ h => h) hM.o rfl (Or.inl (by decide)) dX2_replace_48 ?_
        refine zj_iload X dX2_replace_51 rfl ?_
        refine zj_zald X (hM.arr 7 rfl) (rfl) (by show _ < 256; omega) (by omega) dX2_replace_53 ?_
        refine zj_if_eq (tgt := 76) X dX2_replace_54 (by decide) (fun c_54 => ?_) (fun c_54 => ?_)
        · have e_54 := c_54
          rw [hE 7 (by decide) (by decide)] at e_54
          refine zj_aload_n X dX2_replace_76 rfl ?_
          refine zj_iconst (v := 3) X dX2_replace_77 rfl ?_
          refine zj_callV (n := 1) (As := [_]) X (cm_fail l g hM _) hM.o rfl rfl ⟨by decide, by decide, by decide +kernel⟩ (lw_V q1233 q1235 qs24 q50 q1236) ⟨Nat.le_of_ble_eq_true rfl, Nat.le_of_ble_eq_true rfl⟩ rfl rfl (Nat.le_of_ble_eq_true rfl) ⟨Nat.le_of_ble_eq_true rfl, Nat.le_of_ble_eq_true rfl⟩ dX2_replace_78 (fun v_78 h_78 p_78 => ?_)
          obtain ⟨e_78, σ2, hM2, hE2, h142⟩ := p_78
          subst e_78
          have hE2 := hE2.tr hE
          exact zj_iret X hQ (zs_of (by rw [spRepl, if_pos ⟨e_10, e_18⟩, if_pos e_31, cN_j (show j < 65536 by omega), cN_j (show w < 65536 by omega), if_pos (Or.inl e_54)]) ⟨rfl, σ2, hM2, hE2, h142⟩) rfl (Nat.le_of_ble_eq_true rfl) (Nat.le_of_ble_eq_true rfl) dX2_replace_81
        · have e_54 := c_54
          rw [hE 7 (by decide) (by decide)] at e_54
          refine zj_aload_n X dX2_replace_57 rfl ?_
          refine zj_get X in_X2 rfl 10 (by decide) q1151 (fun _ h => h) hM.o rfl (Or.inl (by decide)) dX2_replace_58 ?_
          refine zj_iload X dX2_replace_61 rfl ?_
          refine zj_iald X (hM.arr 10 rfl) (rfl) (by show _ < 256; omega) (by omega) dX2_replace_63 ?_
          refine zj_iconst (v := (-1)) X dX2_replace_64 rfl ?_
          refine zj_icmp_ne (tgt := 76) X dX2_replace_65 (by decide) (fun c_65 => ?_) (fun c_65 => ?_)
          · have e_65 := c_65
            rw [hE 10 (by decide) (by decide)] at e_65
            refine zj_aload_n X dX2_replace_76 rfl ?_
            refine zj_iconst (v := 3) X dX2_replace_77 rfl ?_
            refine zj_callV (n := 1) (As := [_]) X (cm_fail l g hM _) hM.o rfl rfl ⟨by decide, by decide, by decide +kernel⟩ (lw_V q1233 q1235 qs24 q50 q1236) ⟨Nat.le_of_ble_eq_true rfl, Nat.le_of_ble_eq_true rfl⟩ rfl rfl (Nat.le_of_ble_eq_true rfl) ⟨Nat.le_of_ble_eq_true rfl, Nat.le_of_ble_eq_true rfl⟩ dX2_replace_78 (fun v_78 h_78 p_78 => ?_)
            obtain ⟨e_78, σ2, hM2, hE2, h142⟩ := p_78
            subst e_78
            have hE2 := hE2.tr hE
            exact zj_iret X hQ (zs_of (by rw [spRepl, if_pos ⟨e_10, e_18⟩, if_pos e_31, cN_j (show j < 65536 by omega), cN_j (show w < 65536 by omega), if_pos (Or.inr (Or.inl e_65))]) ⟨rfl, σ2, hM2, hE2, h142⟩) rfl (Nat.le_of_ble_eq_true rfl) (Nat.le_of_ble_eq_true rfl) dX2_replace_81
          · have e_65 := c_65
            rw [hE 10 (by decide) (by decide)] at e_65
            refine zj_iload_n X dX2_replace_68 rfl ?_
            refine zj_aload_n X dX2_replace_69 rfl ?_
            refine zj_get X in_X2 rfl 12 (by decide) q1153 (fun _ h => h) hM.o rfl (Or.inl (by decide)) dX2_replace_70 ?_
            refine zj_icmp_gt (tgt := 82) X dX2_replace_73 (by decide) (fun c_73 => ?_) (fun c_73 => ?_)
            · have e_73 := Int32.not_le.mpr c_73
              rw [hE 12 (by decide) (by decide)] at e_73
              refine zj_aload_n X dX2_replace_82 rfl ?_
              refine zj_get X in_X2 rfl 7 (by decide) q1148 (fun _ h => h) hM.o rfl (Or.inl (by decide)) dX2_replace_83 ?_
              refine zj_iload X dX2_replace_86 rfl ?_
              refine zj_iconst (v := 0) X dX2_replace_88 rfl ?_
              refine zm_za X hM 7 rfl (rfl) (by show _ < 256; omega) (nar_0) dX2_replace_89 (fun h9 hM => ?_)
              refine zj_aload_n X dX2_replace_90 rfl ?_
              refine zj_get X in_X2 rfl 9 (by decide) q1150 (fun _ h => h) hM.o rfl (Or.inl (by decide)) dX2_replace_91 ?_
              refine zj_iload X dX2_replace_94 rfl ?_
              refine zj_iconst (v := 0) X dX2_replace_96 rfl ?_
              refine zm_za X hM 9 rfl (rfl) (by show _ < 256; omega) (nar_0) dX2_replace_97 (fun h9 hM => ?_)
              refine zj_aload_n X dX2_replace_98 rfl ?_
              refine zj_get X in_X2 rfl 8 (by decide) q1149 (fun _ h => h) hM.o rfl (Or.inl (by decide)) dX2_replace_99 ?_
              refine zj_iload X dX2_replace_102 rfl ?_
              refine zj_iconst (v := 1) X dX2_replace_104 rfl ?_
              refine zm_za X hM 8 rfl (rfl) (by show _ < 256; omega) (nar_1) dX2_replace_105 (fun h9 hM => ?_)
              have hM : MR h0 h9 m ad n (stDrop σ1 j w) := hM
              refine zj_aload_n X dX2_replace_106 rfl ?_
              refine zj_iload_n X dX2_replace_107 rfl ?_
              refine zj_iconst (v := 0) X dX2_replace_108 rfl ?_
              refine zj_callVp (n := 2) (As := [_, _]) X (cm_choose l g hM w hw false) hM.o rfl rfl ⟨by decide, by decide, by decide +kernel⟩ (lw_V q1267 q1269 qs27 q50 q1270) ⟨Nat.le_of_ble_eq_true rfl, Nat.le_of_ble_eq_true rfl⟩ rfl rfl (Nat.le_of_ble_eq_true rfl) ⟨Nat.le_of_ble_eq_true rfl, Nat.le_of_ble_eq_true rfl⟩ dX2_replace_109 ?_
              refine zj_istore X dX2_replace_112 (by decide) ?_
              refine zj_iload X dX2_replace_114 rfl ?_
              refine zj_iconst (v := (-1)) X dX2_replace_116 rfl ?_
              refine zj_icmp_eq (tgt := 132) X dX2_replace_117 (by decide) (fun c_117 => ?_) (fun c_117 => ?_)
              · have e_q := zo_e (N := n) (by omega) (fun q hq => mCh_lt _ hq) c_117
                refine zj_iload X dX2_replace_132 rfl ?_
                exact zj_iret X hQ (zs_of (by rw [spRepl, if_pos ⟨e_10, e_18⟩, if_pos e_31, cN_j (show j < 65536 by omega), cN_j (show w < 65536 by omega), if_neg (fun q => q.elim e_54 (fun q => q.elim (fun q => q e_65) e_73))]) ⟨zi_c (by rw [mCh_c (stDrop_c hE)]), _, hM, (by rw [← mCh_c (stDrop_c hE), e_q]; exact stRd_c (r := none) (stDrop_c hE)), h14⟩) rfl (Nat.le_of_ble_eq_true rfl) (Nat.le_of_ble_eq_true rfl) dX2_replace_134
              · obtain ⟨q, e_q⟩ := zo_n c_117
                have hq := mCh_lt _ e_q
                refine zj_aload_n X dX2_replace_120 rfl ?_
                refine zj_get X in_X2 rfl 7 (by decide) q1148 (fun _ h => h) hM.o rfl (Or.inl (by decide)) dX2_replace_121 ?_
                refine zj_iload X dX2_replace_124 rfl ?_
                refine zj_top (x' := nI q) (by rw [e_q]; rfl) ?_
                refine zj_iload_n X dX2_replace_126 rfl ?_
                refine zj_callSp (n := 2) (As := [_, _]) X (cm_at l g _ _ _) ⟨by decide, by decide, by decide +kernel⟩ (lw_S q1264 q1265 q50 q1266) ⟨Nat.le_of_ble_eq_true rfl, Nat.le_of_ble_eq_true rfl⟩ rfl rfl (Nat.le_of_ble_eq_true rfl) ⟨Nat.le_of_ble_eq_true rfl, Nat.le_of_ble_eq_true rfl⟩ dX2_replace_127 ?_
                refine zj_iconst (v := 1) X dX2_replace_130 rfl ?_
                refine zm_za X hM 7 rfl (rfl) (by show _ < 256; omega) (nar_1) dX2_replace_131 (fun h9 hM => ?_)
                have hM : MR h0 h9 m ad n (stRd (stDrop σ1 j w) w (some q)) := hM
                refine zj_iload X dX2_replace_132 rfl ?_
                exact zj_iret X hQ (zs_of (by rw [spRepl, if_pos ⟨e_10, e_18⟩, if_pos e_31, cN_j (show j < 65536 by omega), cN_j (show w < 65536 by omega), if_neg (fun q => q.elim e_54 (fun q => q.elim (fun q => q e_65) e_73))]) ⟨zi_c (by rw [mCh_c (stDrop_c hE)]), _, hM, (by rw [← mCh_c (stDrop_c hE), e_q]; exact stRd_c (r := some q) (stDrop_c hE)), h14⟩) rfl (Nat.le_of_ble_eq_true rfl) (Nat.le_of_ble_eq_true rfl) dX2_replace_134
            · have e_73 := Int32.not_lt.mp c_73
              rw [hE 12 (by decide) (by decide)] at e_73
              refine zj_aload_n X dX2_replace_76 rfl ?_
              refine zj_iconst (v := 3) X dX2_replace_77 rfl ?_
              refine zj_callV (n := 1) (As := [_]) X (cm_fail l g hM _) hM.o rfl rfl ⟨by decide, by decide, by decide +kernel⟩ (lw_V q1233 q1235 qs24 q50 q1236) ⟨Nat.le_of_ble_eq_true rfl, Nat.le_of_ble_eq_true rfl⟩ rfl rfl (Nat.le_of_ble_eq_true rfl) ⟨Nat.le_of_ble_eq_true rfl, Nat.le_of_ble_eq_true rfl⟩ dX2_replace_78 (fun v_78 h_78 p_78 => ?_)
              obtain ⟨e_78, σ2, hM2, hE2, h142⟩ := p_78
              subst e_78
              have hE2 := hE2.tr hE
              exact zj_iret X hQ (zs_of (by rw [spRepl, if_pos ⟨e_10, e_18⟩, if_pos e_31, cN_j (show j < 65536 by omega), cN_j (show w < 65536 by omega), if_pos (Or.inr (Or.inr e_73))]) ⟨rfl, σ2, hM2, hE2, h142⟩) rfl (Nat.le_of_ble_eq_true rfl) (Nat.le_of_ble_eq_true rfl) dX2_replace_81
      · have e_31 : inB 0 99 d = false := zb_0.mp c_31
        refine zj_aload_n X dX2_replace_34 rfl ?_
        refine zj_iconst (v := 2) X dX2_replace_35 rfl ?_
        refine zj_callV (n := 1) (As := [_]) X (cm_fail l g hM _) hM.o rfl rfl ⟨by decide, by decide, by decide +kernel⟩ (lw_V q1233 q1235 qs24 q50 q1236) ⟨Nat.le_of_ble_eq_true rfl, Nat.le_of_ble_eq_true rfl⟩ rfl rfl (Nat.le_of_ble_eq_true rfl) ⟨Nat.le_of_ble_eq_true rfl, Nat.le_of_ble_eq_true rfl⟩ dX2_replace_36 (fun v_36 h_36 p_36 => ?_)
        obtain ⟨e_36, σ2, hM2, hE2, h142⟩ := p_36
        subst e_36
        have hE2 := hE2.tr hE
        exact zj_iret X hQ (zs_of (by rw [spRepl, if_pos ⟨e_10, e_18⟩, if_neg (by simp [e_31])]) ⟨rfl, σ2, hM2, hE2, h142⟩) rfl (Nat.le_of_ble_eq_true rfl) (Nat.le_of_ble_eq_true rfl) dX2_replace_39
    · have e_18 := zb_0.mp c_18
      rw [isWB_c hE] at e_18
      refine zj_aload_n X dX2_replace_21 rfl ?_
      refine zj_iconst (v := 1) X dX2_replace_22 rfl ?_
      refine zj_callV (n := 1) (As := [_]) X (cm_fail l g hM _) hM.o rfl rfl ⟨by decide, by decide, by decide +kernel⟩ (lw_V q1233 q1235 qs24 q50 q1236) ⟨Nat.le_of_ble_eq_true rfl, Nat.le_of_ble_eq_true rfl⟩ rfl rfl (Nat.le_of_ble_eq_true rfl) ⟨Nat.le_of_ble_eq_true rfl, Nat.le_of_ble_eq_true rfl⟩ dX2_replace_23 (fun v_23 h_23 p_23 => ?_)
      obtain ⟨e_23, σ2, hM2, hE2, h142⟩ := p_23
      subst e_23
      have hE2 := hE2.tr hE
      exact zj_iret X hQ (zs_of (by rw [spRepl, if_neg (by simp [e_18])]) ⟨rfl, σ2, hM2, hE2, h142⟩) rfl (Nat.le_of_ble_eq_true rfl) (Nat.le_of_ble_eq_true rfl) dX2_replace_26

def stApp (σ : Nat → Nat → Int32) (w q : Nat) : Nat → Nat → Int32 := zk (zk (zk σ 7 (upd (σ 7) (16 * w + q) 1)) 9 (upd (σ 9) (16 * w + q) 1)) 6 (upd (σ 6) w 1)
def spApp (n : Nat) (σ : Nat → Nat → Int32) (x : Int32) : zS := if isWB n σ x = true then (if mMark n σ (cN x) = -1 ∨ ¬ σ 6 (cN x) = 0 then (2, 0, n, σ) else (match mCh true n σ (cN x) n with
    | none => (3, 0, n, σ)
    | some q => (0, nI q, n, stApp σ (cN x) q))) else (1, 0, n, σ)
theorem stApp_c {σ σ' : Nat → Nat → Int32} (h : mEq σ σ') {w q : Nat} : mEq (stApp σ w q) (stApp σ' w q) := by
  unfold stApp
  rw [h 7 (by decide) (by decide), h 9 (by decide) (by decide), h 6 (by decide) (by decide)]
  exact ((h.zku 7 _).zku 9 _).zku 6 _

set_option maxHeartbeats 4000000 in
theorem cm_appeal (l : Launch) (g : zz_G) {h0 h : zz_H} {m : Nat} {ad : Nat → Nat} {n : Nat} {σ : Nat → Nat → Int32} (hM : MR h0 h m ad n σ) (x : Int32) : zz_C l g yX2_appeal cX2_appeal 3 (some .int) (zz_rm 6 142 0 0) [.ref m, .int x] h (zs h0 m ad (spApp n σ x)) := by
  refine zz_C.of (by decide) (Nat.le_of_ble_eq_true rfl) (fun pP eE sS mM aA bB tT cC X Q hQ => ?_)
  have hn := hM.le
  refine zj_aload_n X dX2_appeal_0 rfl ?_
  refine zj_aload_n X dX2_appeal_1 rfl ?_
  refine zj_iload_n X dX2_appeal_2 rfl ?_
  refine zj_callVp (n := 1) (As := [_]) X (cm_isWork l g hM _) hM.o rfl rfl ⟨by decide, by decide, by decide +kernel⟩ (lw_V q1287 q1289 qs31 q50 q1290) ⟨Nat.le_of_ble_eq_true rfl, Nat.le_of_ble_eq_true rfl⟩ rfl rfl (Nat.le_of_ble_eq_true rfl) ⟨Nat.le_of_ble_eq_true rfl, Nat.le_of_ble_eq_true rfl⟩ dX2_appeal_3 ?_
  refine zj_if_ne (tgt := 13) X dX2_appeal_6 (by decide) (fun c_6 => ?_) (fun c_6 => ?_)
  · have e_6 := zb_n.mp c_6
    obtain ⟨w, hw, rfl, ww⟩ := isWB_t (by omega) e_6
    refine zj_aload_n X dX2_appeal_13 rfl ?_
    refine zj_iload_n X dX2_appeal_14 rfl ?_
    refine zj_callVp (n := 1) (As := [_]) X (cm_mark l g hM w hw) hM.o rfl rfl ⟨by decide, by decide, by decide +kernel⟩ (lw_V q1340 q1342 qs37 q50 q1343) ⟨Nat.le_of_ble_eq_true rfl, Nat.le_of_ble_eq_true rfl⟩ rfl rfl (Nat.le_of_ble_eq_true rfl) ⟨Nat.le_of_ble_eq_true rfl, Nat.le_of_ble_eq_true rfl⟩ dX2_appeal_15 ?_
    refine zj_iconst (v := (-1)) X dX2_appeal_18 rfl ?_
    refine zj_icmp_eq (tgt := 31) X dX2_appeal_19 (by decide) (fun c_19 => ?_) (fun c_19 => ?_)
    · refine zj_iconst (v := 2) X dX2_appeal_31 rfl ?_
      refine zj_goto (tgt := 50) X dX2_appeal_32 (by decide) ?_
      refine zm_th X hM q1155 (fun _ h => h) dX2_appeal_50 (fun h9 σ1 hM hE h14 => ?_)
      refine zj_aload_n X dX2_appeal_53 rfl ?_
      refine zj_get X in_X2 rfl 14 (by decide) q1155 (fun _ h => h) hM.o rfl (Or.inl (by decide)) dX2_appeal_54 ?_
      refine zj_if_le (tgt := 62) X dX2_appeal_57 (by decide) (fun c_57 => absurd c_57 (by rw [h14]; decide)) (fun c_57 => ?_)
      refine zj_iconst (v := 0) X dX2_appeal_60 rfl ?_
      exact zj_iret X hQ (zs_of (by rw [spApp, if_pos e_6, cN_j (show w < 65536 by omega), if_pos (Or.inl c_19)]) ⟨rfl, σ1, hM, hE, h14⟩) rfl (Nat.le_of_ble_eq_true rfl) (Nat.le_of_ble_eq_true rfl) dX2_appeal_61
    · refine zj_aload_n X dX2_appeal_22 rfl ?_
      refine zj_get X in_X2 rfl 6 (by decide) q1147 (fun _ h => h) hM.o rfl (Or.inl (by decide)) dX2_appeal_23 ?_
      refine zj_iload_n X dX2_appeal_26 rfl ?_
      refine zj_zald X (hM.arr 6 rfl) (rfl) (by show _ < 16; omega) (by omega) dX2_appeal_27 ?_
      refine zj_if_eq (tgt := 35) X dX2_appeal_28 (by decide) (fun c_28 => ?_) (fun c_28 => ?_)
      · refine zj_aload_n X dX2_appeal_35 rfl ?_
        refine zj_iload_n X dX2_appeal_36 rfl ?_
        refine zj_iconst (v := 1) X dX2_appeal_37 rfl ?_
        refine zj_callVp (n := 2) (As := [_, _]) X (cm_choose l g hM w hw true) hM.o rfl rfl ⟨by decide, by decide, by decide +kernel⟩ (lw_V q1267 q1269 qs27 q50 q1270) ⟨Nat.le_of_ble_eq_true rfl, Nat.le_of_ble_eq_true rfl⟩ rfl rfl (Nat.le_of_ble_eq_true rfl) ⟨Nat.le_of_ble_eq_true rfl, Nat.le_of_ble_eq_true rfl⟩ dX2_appeal_38 ?_
        refine zj_iconst (v := (-1)) X dX2_appeal_41 rfl ?_
        refine zj_icmp_ne (tgt := 49) X dX2_appeal_42 (by decide) (fun c_42 => ?_) (fun c_42 => ?_)
        · obtain ⟨q, e_q⟩ := zo_n c_42
          have hq := mCh_lt _ e_q
          refine zj_iconst (v := 0) X dX2_appeal_49 rfl ?_
          refine zm_th X hM q1155 (fun _ h => h) dX2_appeal_50 (fun h9 σ1 hM hE h14 => ?_)
          refine zj_aload_n X dX2_appeal_53 rfl ?_
          refine zj_get X in_X2 rfl 14 (by decide) q1155 (fun _ h => h) hM.o rfl (Or.inl (by decide)) dX2_appeal_54 ?_
          refine zj_if_le (tgt := 62) X dX2_appeal_57 (by decide) (fun c_57 => ?_) (fun c_57 => absurd (show σ1 14 0 ≤ 0 by rw [h14]; decide) c_57)
          refine zj_aload_n X dX2_appeal_62 rfl ?_
          refine zj_iload_n X dX2_appeal_63 rfl ?_
          refine zj_iconst (v := 1) X dX2_appeal_64 rfl ?_
          refine zj_callVp (n := 2) (As := [_, _]) X (cm_choose l g hM w hw true) hM.o rfl rfl ⟨by decide, by decide, by decide +kernel⟩ (lw_V q1267 q1269 qs27 q50 q1270) ⟨Nat.le_of_ble_eq_true rfl, Nat.le_of_ble_eq_true rfl⟩ rfl rfl (Nat.le_of_ble_eq_true rfl) ⟨Nat.le_of_ble_eq_true rfl, Nat.le_of_ble_eq_true rfl⟩ dX2_appeal_65 ?_
          refine zj_top (x' := nI q) (by rw [mCh_c hE, e_q]; rfl) ?_
          refine zj_istore_n X dX2_appeal_68 (by decide) ?_
          
          refine zj_aload_n X dX2_appeal_69 rfl ?_
          refine zj_get X in_X2 rfl 7 (by decide) q1148 (fun _ h => h) hM.o rfl (Or.inl (by decide)) dX2_appeal_70 ?_
          refine zj_iload_n X dX2_appeal_73 rfl ?_
          refine zj_iload_n X dX2_appeal_74 rfl ?_
          refine zj_callSp (n := 2) (As := [_, _]) X (cm_at l g _ _ _) ⟨by decide, by decide, by decide +kernel⟩ (lw_S q1264 q1265 q50 q1266) ⟨Nat.le_of_ble_eq_true rfl, Nat.le_of_ble_eq_true rfl⟩ rfl rfl (Nat.le_of_ble_eq_true rfl) ⟨Nat.le_of_ble_eq_true rfl, Nat.le_of_ble_eq_true rfl⟩ dX2_appeal_75 ?_
          refine zj_iconst (v := 1) X dX2_appeal_78 rfl ?_
          refine zm_za X hM 7 rfl (rfl) (by show _ < 256; omega) (nar_1) dX2_appeal_79 (fun h9 hM => ?_)
          refine zj_aload_n X dX2_appeal_80 rfl ?_
          refine zj_get X in_X2 rfl 9 (by decide) q1150 (fun _ h => h) hM.o rfl (Or.inl (by decide)) dX2_appeal_81 ?_
          refine zj_iload_n X dX2_appeal_84 rfl ?_
          refine zj_iload_n X dX2_appeal_85 rfl ?_
          refine zj_callSp (n := 2) (As := [_, _]) X (cm_at l g _ _ _) ⟨by decide, by decide, by decide +kernel⟩ (lw_S q1264 q1265 q50 q1266) ⟨Nat.le_of_ble_eq_true rfl, Nat.le_of_ble_eq_true rfl⟩ rfl rfl (Nat.le_of_ble_eq_true rfl) ⟨Nat.le_of_ble_eq_true rfl, Nat.le_of_ble_eq_true rfl⟩ dX2_appeal_86 ?_
          refine zj_iconst (v := 1) X dX2_appeal_89 rfl ?_
          refine zm_za X hM 9 rfl (rfl) (by show _ < 256; omega) (nar_1) dX2_appeal_90 (fun h9 hM => ?_)
          refine zj_aload_n X dX2_appeal_91 rfl ?_
          refine zj_get X in_X2 rfl 6 (by decide) q1147 (fun _ h => h) hM.o rfl (Or.inl (by decide)) dX2_appeal_92 ?_
          refine zj_iload_n X dX2_appeal_95 rfl ?_
          refine zj_iconst (v := 1) X dX2_appeal_96 rfl ?_
          refine zm_za X hM 6 rfl (rfl) (by show _ < 16; omega) (nar_1) dX2_appeal_97 (fun h9 hM => ?_)
          have hM : MR h0 h9 m ad n (stApp σ1 w q) := hM
          refine zj_iload_n X dX2_appeal_98 rfl ?_
          exact zj_iret X hQ (zs_of (by rw [spApp, if_pos e_6, cN_j (show w < 65536 by omega), if_neg (fun q => q.elim c_19 (fun q => q c_28)), e_q]) ⟨rfl, _, hM, stApp_c hE, h14⟩) rfl (Nat.le_of_ble_eq_true rfl) (Nat.le_of_ble_eq_true rfl) dX2_appeal_99
        · have e_q := zo_e (N := n) (by omega) (fun q hq => mCh_lt _ hq) c_42
          refine zj_iconst (v := 3) X dX2_appeal_45 rfl ?_
          refine zj_goto (tgt := 50) X dX2_appeal_46 (by decide) ?_
          refine zm_th X hM q1155 (fun _ h => h) dX2_appeal_50 (fun h9 σ1 hM hE h14 => ?_)
          refine zj_aload_n X dX2_appeal_53 rfl ?_
          refine zj_get X in_X2 rfl 14 (by decide) q1155 (fun _ h => h) hM.o rfl (Or.inl (by decide)) dX2_appeal_54 ?_
          refine zj_if_le (tgt := 62) X dX2_appeal_57 (by decide) (fun c_57 => absurd c_57 (by rw [h14]; decide)) (fun c_57 => ?_)
          refine zj_iconst (v := 0) X dX2_appeal_60 rfl ?_
          exact zj_iret X hQ (zs_of (by rw [spApp, if_pos e_6, cN_j (show w < 65536 by omega), if_neg (fun q => q.elim c_19 (fun q => q c_28)), e_q]) ⟨rfl, σ1, hM, hE, h14⟩) rfl (Nat.le_of_ble_eq_true rfl) (Nat.le_of_ble_eq_true rfl) dX2_appeal_61
      · refine zj_iconst (v := 2) X dX2_appeal_31 rfl ?_
        refine zj_goto (tgt := 50) X dX2_appeal_32 (by decide) ?_
        refine zm_th X hM q1155 (fun _ h => h) dX2_appeal_50 (fun h9 σ1 hM hE h14 => ?_)
        refine zj_aload_n X dX2_appeal_53 rfl ?_
        refine zj_get X in_X2 rfl 14 (by decide) q1155 (fun _ h => h) hM.o rfl (Or.inl (by decide)) dX2_appeal_54 ?_
        refine zj_if_le (tgt := 62) X dX2_appeal_57 (by decide) (fun c_57 => absurd c_57 (by rw [h14]; decide)) (fun c_57 => ?_)
        refine zj_iconst (v := 0) X dX2_appeal_60 rfl ?_
        exact zj_iret X hQ (zs_of (by rw [spApp, if_pos e_6, cN_j (show w < 65536 by omega), if_pos (Or.inr c_28)]) ⟨rfl, σ1, hM, hE, h14⟩) rfl (Nat.le_of_ble_eq_true rfl) (Nat.le_of_ble_eq_true rfl) dX2_appeal_61
  · have e_6 := zb_0.mp c_6
    refine zj_iconst (v := 1) X dX2_appeal_9 rfl ?_
    refine zj_goto (tgt := 50) X dX2_appeal_10 (by decide) ?_
    refine zm_th X hM q1155 (fun _ h => h) dX2_appeal_50 (fun h9 σ1 hM hE h14 => ?_)
    refine zj_aload_n X dX2_appeal_53 rfl ?_
    refine zj_get X in_X2 rfl 14 (by decide) q1155 (fun _ h => h) hM.o rfl (Or.inl (by decide)) dX2_appeal_54 ?_
    refine zj_if_le (tgt := 62) X dX2_appeal_57 (by decide) (fun c_57 => absurd c_57 (by rw [h14]; decide)) (fun c_57 => ?_)
    refine zj_iconst (v := 0) X dX2_appeal_60 rfl ?_
    exact zj_iret X hQ (zs_of (by rw [spApp, if_neg (by simp [e_6])]) ⟨rfl, σ1, hM, hE, h14⟩) rfl (Nat.le_of_ble_eq_true rfl) (Nat.le_of_ble_eq_true rfl) dX2_appeal_61

