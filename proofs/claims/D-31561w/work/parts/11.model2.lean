set_option maxRecDepth 100000
/-! THE REFERENCE: medians, weights, who is chosen -/
theorem zi_4 {c : Nat} (h0 : c ≠ 0) (h : c < 65536) : ¬ (4 : Int32) * nI c = 0 := by
  have h4 : (4 : Int32) = nI 4 := by decide
  rw [h4, pk_mul]
  exact nI_ne0 (by omega) (by omega)
theorem zb_or (a b : Bool) : zb a ||| zb b = zb (a || b) := by cases a <;> cases b <;> decide
/-- calibrations: at most 8 each -/
def mCal (n : Nat) (σ : Nat → Nat → Int32) : Prop := ∀ p, p < n → ∃ c, c ≤ 8 ∧ σ 4 p = nI c
/-- the sum and the number of the errors of p by the works' marks fo, over k works -/
def mFr (σ : Nat → Nat → Int32) (p : Nat) (fo : Nat → Int32) : Nat → Int32 × Int32
  | 0 => (σ 5 p, σ 4 p)
  | k + 1 => if σ 10 (16 * k + p) = -1 then mFr σ p fo k else ((mFr σ p fo k).1 + zabs (σ 10 (16 * k + p) - fo k), (mFr σ p fo k).2 + 1)
def mFresh (n : Nat) (σ : Nat → Nat → Int32) (p : Nat) (fo : Nat → Int32) : Int32 := if (mFr σ p fo n).2 = 0 then σ 3 p else mWeightBy (mFr σ p fo n).1 (mFr σ p fo n).2
theorem mFr_many {n : Nat} {σ : Nat → Nat → Int32} (hc : mCal n σ) {p : Nat} (hp : p < n) (fo : Nat → Int32) (k : Nat) : ∃ c, c ≤ 8 + k ∧ (mFr σ p fo k).2 = nI c := by
  induction k with
  | zero =>
    obtain ⟨c, h1, h2⟩ := hc p hp
    exact ⟨c, h1, h2⟩
  | succ k ih =>
    obtain ⟨c, h1, h2⟩ := ih
    unfold mFr
    split
    · exact ⟨c, by omega, h2⟩
    · refine ⟨c + 1, by omega, ?_⟩
      show (mFr σ p fo k).2 + 1 = _
      rw [h2, nI_1]

set_option maxHeartbeats 4000000 in
theorem cm_weightBy (l : Launch) (g : zz_G) (h : zz_H) (x y : Int32) (hy : ¬ (4 : Int32) * y = 0) : zz_C l g yX2_weightBy cX2_weightBy 2 (some .int) (zz_rm 1 20 0 0) [.int x, .int y] h (fun r h' => r = some (.int (mWeightBy x y)) ∧ h' = h) := by
  refine zz_C.of (by decide) (Nat.le_of_ble_eq_true rfl) (fun pP eE sS mM aA bB tT cC X Q hQ => ?_)
  refine zj_iconst (v := 1) X dX2_weightBy_0 rfl ?_
  refine zj_bipush (v := 10) X dX2_weightBy_1 (by decide) ?_
  refine zj_iload_n X dX2_weightBy_3 rfl ?_
  refine zj_iconst (v := 4) X dX2_weightBy_4 rfl ?_
  refine zj_iload_n X dX2_weightBy_5 rfl ?_
  refine zj_imul X dX2_weightBy_6 ?_
  refine zj_idiv X dX2_weightBy_7 hy ?_
  refine zj_isub X dX2_weightBy_8 ?_
  refine zj_mmax X q1327 q314 q58 q315 ⟨Nat.le_of_ble_eq_true rfl, Nat.le_of_ble_eq_true rfl⟩ ⟨Nat.le_of_ble_eq_true rfl, Nat.le_of_ble_eq_true rfl⟩ dX2_weightBy_9 ?_
  exact zj_iret X hQ (⟨by rfl, rfl⟩) rfl (Nat.le_of_ble_eq_true rfl) (Nat.le_of_ble_eq_true rfl) dX2_weightBy_12

set_option maxHeartbeats 4000000 in
theorem cm_plainWeight (l : Launch) (g : zz_G) {h0 h : zz_H} {m : Nat} {ad : Nat → Nat} {n : Nat} {σ : Nat → Nat → Int32} (hM : MR h0 h m ad n σ) (hc : mCal n σ) (p : Nat) (hp : p < n) : zz_C l g yX2_plainWeight cX2_plainWeight 2 (some .int) (zz_rm 2 41 0 0) [.ref m, .int (nI p)] h (fun r h' => r = some (.int (mPlain σ p)) ∧ h' = h) := by
  refine zz_C.of (by decide) (Nat.le_of_ble_eq_true rfl) (fun pP eE sS mM aA bB tT cC X Q hQ => ?_)
  have hn := hM.le
  refine zj_aload_n X dX2_plainWeight_0 rfl ?_
  refine zj_get X in_X2 rfl 4 (by decide) q1145 (fun _ h => h) hM.o rfl (Or.inl (by decide)) dX2_plainWeight_1 ?_
  refine zj_iload_n X dX2_plainWeight_4 rfl ?_
  refine zj_iald X (hM.arr 4 rfl) (rfl) (by show _ < 16; omega) (by omega) dX2_plainWeight_5 ?_
  refine zj_if_ne (tgt := 13) X dX2_plainWeight_6 (by decide) (fun c_6 => ?_) (fun c_6 => ?_)
  · refine zj_aload_n X dX2_plainWeight_13 rfl ?_
    refine zj_get X in_X2 rfl 5 (by decide) q1146 (fun _ h => h) hM.o rfl (Or.inl (by decide)) dX2_plainWeight_14 ?_
    refine zj_iload_n X dX2_plainWeight_17 rfl ?_
    refine zj_iald X (hM.arr 5 rfl) (rfl) (by show _ < 16; omega) (by omega) dX2_plainWeight_18 ?_
    refine zj_aload_n X dX2_plainWeight_19 rfl ?_
    refine zj_get X in_X2 rfl 4 (by decide) q1145 (fun _ h => h) hM.o rfl (Or.inl (by decide)) dX2_plainWeight_20 ?_
    refine zj_iload_n X dX2_plainWeight_23 rfl ?_
    refine zj_iald X (hM.arr 4 rfl) (rfl) (by show _ < 16; omega) (by omega) dX2_plainWeight_24 ?_
    refine zj_callSp (n := 2) (As := [_, _]) X (cm_weightBy l g h _ _ (by obtain ⟨c, h1, h2⟩ := hc p hp; rw [h2] at c_6 ⊢; exact zi_4 (fun z => c_6 (by rw [z]; rfl)) (by omega))) ⟨by decide, by decide, by decide +kernel⟩ (lw_S q1324 q1325 q50 q1326) ⟨Nat.le_of_ble_eq_true rfl, Nat.le_of_ble_eq_true rfl⟩ rfl rfl (Nat.le_of_ble_eq_true rfl) ⟨Nat.le_of_ble_eq_true rfl, Nat.le_of_ble_eq_true rfl⟩ dX2_plainWeight_25 ?_
    exact zj_iret X hQ (⟨by simp [mPlain, c_6], rfl⟩) rfl (Nat.le_of_ble_eq_true rfl) (Nat.le_of_ble_eq_true rfl) dX2_plainWeight_28
  · refine zj_iconst (v := 5) X dX2_plainWeight_9 rfl ?_
    refine zj_goto (tgt := 28) X dX2_plainWeight_10 (by decide) ?_
    exact zj_iret X hQ (⟨by simp [mPlain, c_6], rfl⟩) rfl (Nat.le_of_ble_eq_true rfl) (Nat.le_of_ble_eq_true rfl) dX2_plainWeight_28

set_option maxHeartbeats 4000000 in
theorem cm_allowed (l : Launch) (g : zz_G) {h0 h : zz_H} {m : Nat} {ad : Nat → Nat} {n : Nat} {σ : Nat → Nat → Int32} (hM : MR h0 h m ad n σ) (w : Nat) (hw : w < n) : zz_C l g yX2_allowed cX2_allowed 2 (some .int) (zz_rm 3 64 0 0) [.ref m, .int (nI w)] h (fun r h' => r = some (.int (mAllow n σ w)) ∧ h' = h) := by
  refine zz_C.of (by decide) (Nat.le_of_ble_eq_true rfl) (fun pP eE sS mM aA bB tT cC X Q hQ => ?_)
  have hn := hM.le
  refine zj_aload_n X dX2_allowed_0 rfl ?_
  refine zj_iload_n X dX2_allowed_1 rfl ?_
  refine zj_callVp (n := 1) (As := [_]) X (cm_countReviews l g hM w hw) hM.o rfl rfl ⟨by decide, by decide, by decide +kernel⟩ (lw_V q1364 q1366 qs43 q50 q1367) ⟨Nat.le_of_ble_eq_true rfl, Nat.le_of_ble_eq_true rfl⟩ rfl rfl (Nat.le_of_ble_eq_true rfl) ⟨Nat.le_of_ble_eq_true rfl, Nat.le_of_ble_eq_true rfl⟩ dX2_allowed_2 ?_
  refine zj_iconst (v := 3) X dX2_allowed_5 rfl ?_
  refine zj_icmp_ge (tgt := 14) X dX2_allowed_6 (by decide) (fun c_6 => ?_) (fun c_6 => ?_)
  · have e_6 := Int32.not_lt.mpr c_6
    refine zj_aload_n X dX2_allowed_14 rfl ?_
    refine zj_get X in_X2 rfl 13 (by decide) q1154 (fun _ h => h) hM.o rfl (Or.inl (by decide)) dX2_allowed_15 ?_
    exact zj_iret X hQ (⟨by simp [mAllow, e_6], rfl⟩) rfl (Nat.le_of_ble_eq_true rfl) (Nat.le_of_ble_eq_true rfl) dX2_allowed_18
  · have e_6 := Int32.not_le.mp c_6
    refine zj_bipush (v := 100) X dX2_allowed_9 (by decide) ?_
    refine zj_goto (tgt := 18) X dX2_allowed_11 (by decide) ?_
    exact zj_iret X hQ (⟨by simp [mAllow, e_6], rfl⟩) rfl (Nat.le_of_ble_eq_true rfl) (Nat.le_of_ble_eq_true rfl) dX2_allowed_18

set_option maxHeartbeats 4000000 in
theorem cm_median (l : Launch) (g : zz_G) {h0 h : zz_H} {m : Nat} {ad : Nat → Nat} {n : Nat} {σ : Nat → Nat → Int32} (hM : MR h0 h m ad n σ) (w : Nat) (hw : w < n) (mid most : Int32) : zz_C l g yX2_median cX2_median 9 (some .int) (zz_rm 4 93 0 0) [.ref m, .int (nI w), .int mid, .int most] h (fun r h' => r = some (.int (mMed n σ w mid most)) ∧ h' = h) := by
  refine zz_C.of (by decide) (Nat.le_of_ble_eq_true rfl) (fun pP eE sS mM aA bB tT cC X Q hQ => ?_)
  have hn := hM.le
  refine zj_iconst (v := 0) X dX2_median_0 rfl ?_
  refine zj_istore X dX2_median_1 (by decide) ?_
  refine zj_iconst (v := 0) X dX2_median_3 rfl ?_
  refine zj_istore X dX2_median_4 (by decide) ?_
  have L_6 : ∀ k_6 : Nat, ∀ (i : Nat), i ≤ n → n < i + k_6 → zz_J pP l eE (zz_rm 4 93 0 0) sS mM aA bB tT cC g 9 Q h 0 0 6 [(0, .ref m), (1, .int (nI w)), (2, .int mid), (3, .int most), (4, .int (zsum (fun p => if mNear σ p w mid most = true then mCounts σ p w else 0) i)), (5, .int (nI i))] [] := by
    intro k_6
    induction k_6 with
    | zero =>
      intro i h1 h2
      omega
    | succ k_6 ih_6 =>
      intro i h1 h2
      refine zj_iload X dX2_median_6 rfl ?_
      refine zj_aload_n X dX2_median_8 rfl ?_
      refine zj_get X in_X2 rfl 0 (by decide) q1141 (fun _ h => h) hM.o rfl (Or.inl (by decide)) dX2_median_9 ?_
      refine zj_icmp_ge (tgt := 49) X dX2_median_12 (by decide) (fun c_12 => ?_) (fun c_12 => ?_)
      · have e_12 := zi_ge h1 (by omega) c_12
        refine zj_iconst (v := (-1)) X dX2_median_49 rfl ?_
        refine zj_istore X dX2_median_50 (by decide) ?_
        refine zj_iconst (v := 0) X dX2_median_52 rfl ?_
        refine zj_istore X dX2_median_53 (by decide) ?_
        have L_55 : ∀ k_55 : Nat, ∀ (i : Nat), i ≤ n → n < i + k_55 → zz_J pP l eE (zz_rm 4 93 0 0) sS mM aA bB tT cC g 9 Q h 0 0 55 [(0, .ref m), (1, .int (nI w)), (2, .int mid), (3, .int most), (4, .int (mAll n σ w mid most)), (5, .int (mMedK n σ w mid most i)), (6, .int (nI i))] [] := by
          intro k_55
          induction k_55 with
          | zero =>
            intro i h1 h2
            omega
          | succ k_55 ih_55 =>
            intro i h1 h2
            refine zj_iload X dX2_median_55 rfl ?_
            refine zj_aload_n X dX2_median_57 rfl ?_
            refine zj_get X in_X2 rfl 0 (by decide) q1141 (fun _ h => h) hM.o rfl (Or.inl (by decide)) dX2_median_58 ?_
            refine zj_icmp_ge (tgt := 140) X dX2_median_61 (by decide) (fun c_61 => ?_) (fun c_61 => ?_)
            · have e_61 := zi_ge h1 (by omega) c_61
              refine zj_iload X dX2_median_140 rfl ?_
              exact zj_iret X hQ (⟨by rw [e_61]; rfl, rfl⟩) rfl (Nat.le_of_ble_eq_true rfl) (Nat.le_of_ble_eq_true rfl) dX2_median_142
            · have e_61 := zi_lt h1 (by omega) c_61
              refine zj_aload_n X dX2_median_64 rfl ?_
              refine zj_get X in_X2 rfl 10 (by decide) q1151 (fun _ h => h) hM.o rfl (Or.inl (by decide)) dX2_median_65 ?_
              refine zj_iload X dX2_median_68 rfl ?_
              refine zj_iload_n X dX2_median_70 rfl ?_
              refine zj_callSp (n := 2) (As := [_, _]) X (cm_at l g _ _ _) ⟨by decide, by decide, by decide +kernel⟩ (lw_S q1264 q1265 q50 q1266) ⟨Nat.le_of_ble_eq_true rfl, Nat.le_of_ble_eq_true rfl⟩ rfl rfl (Nat.le_of_ble_eq_true rfl) ⟨Nat.le_of_ble_eq_true rfl, Nat.le_of_ble_eq_true rfl⟩ dX2_median_71 ?_
              refine zj_iald X (hM.arr 10 rfl) (rfl) (by show _ < 256; omega) (by omega) dX2_median_74 ?_
              refine zj_istore X dX2_median_75 (by decide) ?_
              refine zj_iload X dX2_median_77 rfl ?_
              refine zj_iconst (v := (-1)) X dX2_median_79 rfl ?_
              refine zj_icmp_eq (tgt := 90) X dX2_median_80 (by decide) (fun c_80 => ?_) (fun c_80 => ?_)
              · refine zj_iconst (v := 1) X dX2_median_90 rfl ?_
                refine zj_goto (tgt := 95) X dX2_median_91 (by decide) ?_
                refine zj_istore X dX2_median_95 (by decide) ?_
                refine zj_aload_n X dX2_median_97 rfl ?_
                refine zj_iload X dX2_median_98 rfl ?_
                refine zj_iload_n X dX2_median_100 rfl ?_
                refine zj_iload_n X dX2_median_101 rfl ?_
                refine zj_iload_n X dX2_median_102 rfl ?_
                refine zj_callVp (n := 4) (As := [_, _, _, _]) X (cm_isNear l g hM i w e_61 hw _ _) hM.o rfl rfl ⟨by decide, by decide, by decide +kernel⟩ (lw_V q1348 q1350 qs39 q50 q1351) ⟨Nat.le_of_ble_eq_true rfl, Nat.le_of_ble_eq_true rfl⟩ rfl rfl (Nat.le_of_ble_eq_true rfl) ⟨Nat.le_of_ble_eq_true rfl, Nat.le_of_ble_eq_true rfl⟩ dX2_median_103 ?_
                refine zj_if_eq (tgt := 134) X dX2_median_106 (by decide) (fun c_106 => ?_) (fun c_106 => ?_)
                · have e_106 := zb_0.mp c_106
                  refine zj_iinc X dX2_median_134 rfl (zi_1 i) (by decide) ?_
                  refine zj_goto (tgt := 55) X dX2_median_137 (by decide) ?_
                  exact zj_lo (ih_55 (i + 1) (by omega) (by omega)) ⟨rfl, rfl, rfl, rfl, rfl, zi_c (by first | (simp [mMedK, e_106]; done) | (have e_87 := Int32.not_lt.mpr c_87; simp [mMedK, e_106, c_80, e_87]; done) | (have e_127 := Int32.not_le.mpr c_127; simp [mMedK, e_106, e_127]; done) | (have e_127 := Int32.not_lt.mp c_127; have e_87 := Int32.not_le.mp c_87; simp [mMedK, e_106, e_127, e_87]; done) | (have e_127 := Int32.not_lt.mp c_127; simp [mMedK, e_106, e_127, c_80])), rfl, trivial⟩
                · have e_106 := zb_n.mp c_106
                  refine zj_iload X dX2_median_109 rfl ?_
                  refine zj_if_eq (tgt := 134) X dX2_median_111 (by decide) (fun c_111 => absurd c_111 (by decide)) (fun c_111 => ?_)
                  refine zj_iconst (v := 2) X dX2_median_114 rfl ?_
                  refine zj_aload_n X dX2_median_115 rfl ?_
                  refine zj_iload_n X dX2_median_116 rfl ?_
                  refine zj_iload X dX2_median_117 rfl ?_
                  refine zj_iload_n X dX2_median_119 rfl ?_
                  refine zj_iload_n X dX2_median_120 rfl ?_
                  refine zj_callVp (n := 4) (As := [_, _, _, _]) X (cm_countBelow l g hM w hw _ _ _) hM.o rfl rfl ⟨by decide, by decide, by decide +kernel⟩ (lw_V q1356 q1358 qs41 q50 q1359) ⟨Nat.le_of_ble_eq_true rfl, Nat.le_of_ble_eq_true rfl⟩ rfl rfl (Nat.le_of_ble_eq_true rfl) ⟨Nat.le_of_ble_eq_true rfl, Nat.le_of_ble_eq_true rfl⟩ dX2_median_121 ?_
                  refine zj_imul X dX2_median_124 ?_
                  refine zj_iload X dX2_median_125 rfl ?_
                  refine zj_icmp_lt (tgt := 134) X dX2_median_127 (by decide) (fun c_127 => ?_) (fun c_127 => ?_)
                  · refine zj_iinc X dX2_median_134 rfl (zi_1 i) (by decide) ?_
                    refine zj_goto (tgt := 55) X dX2_median_137 (by decide) ?_
                    exact zj_lo (ih_55 (i + 1) (by omega) (by omega)) ⟨rfl, rfl, rfl, rfl, rfl, zi_c (by first | (simp [mMedK, e_106]; done) | (have e_87 := Int32.not_lt.mpr c_87; simp [mMedK, e_106, c_80, e_87]; done) | (have e_127 := Int32.not_le.mpr c_127; simp [mMedK, e_106, e_127]; done) | (have e_127 := Int32.not_lt.mp c_127; have e_87 := Int32.not_le.mp c_87; simp [mMedK, e_106, e_127, e_87]; done) | (have e_127 := Int32.not_lt.mp c_127; simp [mMedK, e_106, e_127, c_80])), rfl, trivial⟩
                  · refine zj_iload X dX2_median_130 rfl ?_
                    refine zj_istore X dX2_median_132 (by decide) ?_
                    refine zj_iinc X dX2_median_134 rfl (zi_1 i) (by decide) ?_
                    refine zj_goto (tgt := 55) X dX2_median_137 (by decide) ?_
                    exact zj_lo (ih_55 (i + 1) (by omega) (by omega)) ⟨rfl, rfl, rfl, rfl, rfl, zi_c (by first | (simp [mMedK, e_106]; done) | (have e_87 := Int32.not_lt.mpr c_87; simp [mMedK, e_106, c_80, e_87]; done) | (have e_127 := Int32.not_le.mpr c_127; simp [mMedK, e_106, e_127]; done) | (have e_127 := Int32.not_lt.mp c_127; have e_87 := Int32.not_le.mp c_87; simp [mMedK, e_106, e_127, e_87]; done) | (have e_127 := Int32.not_lt.mp c_127; simp [mMedK, e_106, e_127, c_80])), rfl, trivial⟩
              · refine zj_iload X dX2_median_83 rfl ?_
                refine zj_iload X dX2_median_85 rfl ?_
                refine zj_icmp_ge (tgt := 94) X dX2_median_87 (by decide) (fun c_87 => ?_) (fun c_87 => ?_)
                · refine zj_iconst (v := 0) X dX2_median_94 rfl ?_
                  refine zj_istore X dX2_median_95 (by decide) ?_
                  refine zj_aload_n X dX2_median_97 rfl ?_
                  refine zj_iload X dX2_median_98 rfl ?_
                  refine zj_iload_n X dX2_median_100 rfl ?_
                  refine zj_iload_n X dX2_median_101 rfl ?_
                  refine zj_iload_n X dX2_median_102 rfl ?_
                  refine zj_callVp (n := 4) (As := [_, _, _, _]) X (cm_isNear l g hM i w e_61 hw _ _) hM.o rfl rfl ⟨by decide, by decide, by decide +kernel⟩ (lw_V q1348 q1350 qs39 q50 q1351) ⟨Nat.le_of_ble_eq_true rfl, Nat.le_of_ble_eq_true rfl⟩ rfl rfl (Nat.le_of_ble_eq_true rfl) ⟨Nat.le_of_ble_eq_true rfl, Nat.le_of_ble_eq_true rfl⟩ dX2_median_103 ?_
                  refine zj_if_eq (tgt := 134) X dX2_median_106 (by decide) (fun c_106 => ?_) (fun c_106 => ?_)
                  · have e_106 := zb_0.mp c_106
                    refine zj_iinc X dX2_median_134 rfl (zi_1 i) (by decide) ?_
                    refine zj_goto (tgt := 55) X dX2_median_137 (by decide) ?_
                    exact zj_lo (ih_55 (i + 1) (by omega) (by omega)) ⟨rfl, rfl, rfl, rfl, rfl, zi_c (by first | (simp [mMedK, e_106]; done) | (have e_87 := Int32.not_lt.mpr c_87; simp [mMedK, e_106, c_80, e_87]; done) | (have e_127 := Int32.not_le.mpr c_127; simp [mMedK, e_106, e_127]; done) | (have e_127 := Int32.not_lt.mp c_127; have e_87 := Int32.not_le.mp c_87; simp [mMedK, e_106, e_127, e_87]; done) | (have e_127 := Int32.not_lt.mp c_127; simp [mMedK, e_106, e_127, c_80])), rfl, trivial⟩
                  · have e_106 := zb_n.mp c_106
                    refine zj_iload X dX2_median_109 rfl ?_
                    refine zj_if_eq (tgt := 134) X dX2_median_111 (by decide) (fun c_111 => ?_) (fun c_111 => absurd (by decide) c_111)
                    refine zj_iinc X dX2_median_134 rfl (zi_1 i) (by decide) ?_
                    refine zj_goto (tgt := 55) X dX2_median_137 (by decide) ?_
                    exact zj_lo (ih_55 (i + 1) (by omega) (by omega)) ⟨rfl, rfl, rfl, rfl, rfl, zi_c (by first | (simp [mMedK, e_106]; done) | (have e_87 := Int32.not_lt.mpr c_87; simp [mMedK, e_106, c_80, e_87]; done) | (have e_127 := Int32.not_le.mpr c_127; simp [mMedK, e_106, e_127]; done) | (have e_127 := Int32.not_lt.mp c_127; have e_87 := Int32.not_le.mp c_87; simp [mMedK, e_106, e_127, e_87]; done) | (have e_127 := Int32.not_lt.mp c_127; simp [mMedK, e_106, e_127, c_80])), rfl, trivial⟩
                · refine zj_iconst (v := 1) X dX2_median_90 rfl ?_
                  refine zj_goto (tgt := 95) X dX2_median_91 (by decide) ?_
                  refine zj_istore X dX2_median_95 (by decide) ?_
                  refine zj_aload_n X dX2_median_97 rfl ?_
                  refine zj_iload X dX2_median_98 rfl ?_
                  refine zj_iload_n X dX2_median_100 rfl ?_
                  refine zj_iload_n X dX2_median_101 rfl ?_
                  refine zj_iload_n X dX2_median_102 rfl ?_
                  refine zj_callVp (n := 4) (As := [_, _, _, _]) X (cm_isNear l g hM i w e_61 hw _ _) hM.o rfl rfl ⟨by decide, by decide, by decide +kernel⟩ (lw_V q1348 q1350 qs39 q50 q1351) ⟨Nat.le_of_ble_eq_true rfl, Nat.le_of_ble_eq_true rfl⟩ rfl rfl (Nat.le_of_ble_eq_true rfl) ⟨Nat.le_of_ble_eq_true rfl, Nat.le_of_ble_eq_true rfl⟩ dX2_median_103 ?_
                  refine zj_if_eq (tgt := 134) X dX2_median_106 (by decide) (fun c_106 => ?_) (fun c_106 => ?_)
                  · have e_106 := zb_0.mp c_106
                    refine zj_iinc X dX2_median_134 rfl (zi_1 i) (by decide) ?_
                    refine zj_goto (tgt := 55) X dX2_median_137 (by decide) ?_
                    exact zj_lo (ih_55 (i + 1) (by omega) (by omega)) ⟨rfl, rfl, rfl, rfl, rfl, zi_c (by first | (simp [mMedK, e_106]; done) | (have e_87 := Int32.not_lt.mpr c_87; simp [mMedK, e_106, c_80, e_87]; done) | (have e_127 := Int32.not_le.mpr c_127; simp [mMedK, e_106, e_127]; done) | (have e_127 := Int32.not_lt.mp c_127; have e_87 := Int32.not_le.mp c_87; simp [mMedK, e_106, e_127, e_87]; done) | (have e_127 := Int32.not_lt.mp c_127; simp [mMedK, e_106, e_127, c_80])), rfl, trivial⟩
                  · have e_106 := zb_n.mp c_106
                    refine zj_iload X dX2_median_109 rfl ?_
                    refine zj_if_eq (tgt := 134) X dX2_median_111 (by decide) (fun c_111 => absurd c_111 (by decide)) (fun c_111 => ?_)
                    refine zj_iconst (v := 2) X dX2_median_114 rfl ?_
                    refine zj_aload_n X dX2_median_115 rfl ?_
                    refine zj_iload_n X dX2_median_116 rfl ?_
                    refine zj_iload X dX2_median_117 rfl ?_
                    refine zj_iload_n X dX2_median_119 rfl ?_
                    refine zj_iload_n X dX2_median_120 rfl ?_
                    refine zj_callVp (n := 4) (As := [_, _, _, _]) X (cm_countBelow l g hM w hw _ _ _) hM.o rfl rfl ⟨by decide, by decide, by decide +kernel⟩ (lw_V q1356 q1358 qs41 q50 q1359) ⟨Nat.le_of_ble_eq_true rfl, Nat.le_of_ble_eq_true rfl⟩ rfl rfl (Nat.le_of_ble_eq_true rfl) ⟨Nat.le_of_ble_eq_true rfl, Nat.le_of_ble_eq_true rfl⟩ dX2_median_121 ?_
                    refine zj_imul X dX2_median_124 ?_
                    refine zj_iload X dX2_median_125 rfl ?_
                    refine zj_icmp_lt (tgt := 134) X dX2_median_127 (by decide) (fun c_127 => ?_) (fun c_127 => ?_)
                    · refine zj_iinc X dX2_median_134 rfl (zi_1 i) (by decide) ?_
                      refine zj_goto (tgt := 55) X dX2_median_137 (by decide) ?_
                      exact zj_lo (ih_55 (i + 1) (by omega) (by omega)) ⟨rfl, rfl, rfl, rfl, rfl, zi_c (by first | (simp [mMedK, e_106]; done) | (have e_87 := Int32.not_lt.mpr c_87; simp [mMedK, e_106, c_80, e_87]; done) | (have e_127 := Int32.not_le.mpr c_127; simp [mMedK, e_106, e_127]; done) | (have e_127 := Int32.not_lt.mp c_127; have e_87 := Int32.not_le.mp c_87; simp [mMedK, e_106, e_127, e_87]; done) | (have e_127 := Int32.not_lt.mp c_127; simp [mMedK, e_106, e_127, c_80])), rfl, trivial⟩
                    · refine zj_iload X dX2_median_130 rfl ?_
                      refine zj_istore X dX2_median_132 (by decide) ?_
                      refine zj_iinc X dX2_median_134 rfl (zi_1 i) (by decide) ?_
                      refine zj_goto (tgt := 55) X dX2_median_137 (by decide) ?_
                      exact zj_lo (ih_55 (i + 1) (by omega) (by omega)) ⟨rfl, rfl, rfl, rfl, rfl, zi_c (by first | (simp [mMedK, e_106]; done) | (have e_87 := Int32.not_lt.mpr c_87; simp [mMedK, e_106, c_80, e_87]; done) | (have e_127 := Int32.not_le.mpr c_127; simp [mMedK, e_106, e_127]; done) | (have e_127 := Int32.not_lt.mp c_127; have e_87 := Int32.not_le.mp c_87; simp [mMedK, e_106, e_127, e_87]; done) | (have e_127 := Int32.not_lt.mp c_127; simp [mMedK, e_106, e_127, c_80])), rfl, trivial⟩
        exact zj_lo (L_55 (n + 1) 0 (Nat.zero_le _) (by omega)) ⟨rfl, rfl, rfl, rfl, zi_c (by rw [e_12]; rfl), rfl, rfl, trivial⟩
      · have e_12 := zi_lt h1 (by omega) c_12
        refine zj_iload X dX2_median_15 rfl ?_
        refine zj_aload_n X dX2_median_17 rfl ?_
        refine zj_iload X dX2_median_18 rfl ?_
        refine zj_iload_n X dX2_median_20 rfl ?_
        refine zj_iload_n X dX2_median_21 rfl ?_
        refine zj_iload_n X dX2_median_22 rfl ?_
        refine zj_callVp (n := 4) (As := [_, _, _, _]) X (cm_isNear l g hM i w e_12 hw _ _) hM.o rfl rfl ⟨by decide, by decide, by decide +kernel⟩ (lw_V q1348 q1350 qs39 q50 q1351) ⟨Nat.le_of_ble_eq_true rfl, Nat.le_of_ble_eq_true rfl⟩ rfl rfl (Nat.le_of_ble_eq_true rfl) ⟨Nat.le_of_ble_eq_true rfl, Nat.le_of_ble_eq_true rfl⟩ dX2_median_23 ?_
        refine zj_if_eq (tgt := 39) X dX2_median_26 (by decide) (fun c_26 => ?_) (fun c_26 => ?_)
        · have e_26 := zb_0.mp c_26
          refine zj_iconst (v := 0) X dX2_median_39 rfl ?_
          refine zj_iadd X dX2_median_40 ?_
          refine zj_istore X dX2_median_41 (by decide) ?_
          refine zj_iinc X dX2_median_43 rfl (zi_1 i) (by decide) ?_
          refine zj_goto (tgt := 6) X dX2_median_46 (by decide) ?_
          exact zj_lo (ih_6 (i + 1) (by omega) (by omega)) ⟨rfl, rfl, rfl, rfl, zi_c (by simp [zsum, e_26]), rfl, trivial⟩
        · have e_26 := zb_n.mp c_26
          refine zj_aload_n X dX2_median_29 rfl ?_
          refine zj_iload X dX2_median_30 rfl ?_
          refine zj_iload_n X dX2_median_32 rfl ?_
          refine zj_callVp (n := 2) (As := [_, _]) X (cm_counts l g hM i w e_12 hw) hM.o rfl rfl ⟨by decide, by decide, by decide +kernel⟩ (lw_V q1352 q1354 qs40 q50 q1355) ⟨Nat.le_of_ble_eq_true rfl, Nat.le_of_ble_eq_true rfl⟩ rfl rfl (Nat.le_of_ble_eq_true rfl) ⟨Nat.le_of_ble_eq_true rfl, Nat.le_of_ble_eq_true rfl⟩ dX2_median_33 ?_
          refine zj_goto (tgt := 40) X dX2_median_36 (by decide) ?_
          refine zj_iadd X dX2_median_40 ?_
          refine zj_istore X dX2_median_41 (by decide) ?_
          refine zj_iinc X dX2_median_43 rfl (zi_1 i) (by decide) ?_
          refine zj_goto (tgt := 6) X dX2_median_46 (by decide) ?_
          exact zj_lo (ih_6 (i + 1) (by omega) (by omega)) ⟨rfl, rfl, rfl, rfl, zi_c (by simp [zsum, e_26]), rfl, trivial⟩
  exact zj_lo (L_6 (n + 1) 0 (Nat.zero_le _) (by omega)) ⟨rfl, rfl, rfl, rfl, rfl, rfl, trivial⟩

set_option maxHeartbeats 4000000 in
theorem cm_mark (l : Launch) (g : zz_G) {h0 h : zz_H} {m : Nat} {ad : Nat → Nat} {n : Nat} {σ : Nat → Nat → Int32} (hM : MR h0 h m ad n σ) (w : Nat) (hw : w < n) : zz_C l g yX2_mark cX2_mark 2 (some .int) (zz_rm 5 121 0 0) [.ref m, .int (nI w)] h (fun r h' => r = some (.int (mMark n σ w)) ∧ h' = h) := by
  refine zz_C.of (by decide) (Nat.le_of_ble_eq_true rfl) (fun pP eE sS mM aA bB tT cC X Q hQ => ?_)
  refine zj_aload_n X dX2_mark_0 rfl ?_
  refine zj_iload_n X dX2_mark_1 rfl ?_
  refine zj_aload_n X dX2_mark_2 rfl ?_
  refine zj_iload_n X dX2_mark_3 rfl ?_
  refine zj_iconst (v := 0) X dX2_mark_4 rfl ?_
  refine zj_bipush (v := 100) X dX2_mark_5 (by decide) ?_
  refine zj_callVp (n := 3) (As := [_, _, _]) X (cm_median l g hM w hw _ _) hM.o rfl rfl ⟨by decide, by decide, by decide +kernel⟩ (lw_V q1344 q1346 qs38 q50 q1347) ⟨Nat.le_of_ble_eq_true rfl, Nat.le_of_ble_eq_true rfl⟩ rfl rfl (Nat.le_of_ble_eq_true rfl) ⟨Nat.le_of_ble_eq_true rfl, Nat.le_of_ble_eq_true rfl⟩ dX2_mark_7 ?_
  refine zj_aload_n X dX2_mark_10 rfl ?_
  refine zj_iload_n X dX2_mark_11 rfl ?_
  refine zj_callVp (n := 1) (As := [_]) X (cm_allowed l g hM w hw) hM.o rfl rfl ⟨by decide, by decide, by decide +kernel⟩ (lw_V q1360 q1362 qs42 q50 q1363) ⟨Nat.le_of_ble_eq_true rfl, Nat.le_of_ble_eq_true rfl⟩ rfl rfl (Nat.le_of_ble_eq_true rfl) ⟨Nat.le_of_ble_eq_true rfl, Nat.le_of_ble_eq_true rfl⟩ dX2_mark_12 ?_
  refine zj_callVp (n := 3) (As := [_, _, _]) X (cm_median l g hM w hw _ _) hM.o rfl rfl ⟨by decide, by decide, by decide +kernel⟩ (lw_V q1344 q1346 qs38 q50 q1347) ⟨Nat.le_of_ble_eq_true rfl, Nat.le_of_ble_eq_true rfl⟩ rfl rfl (Nat.le_of_ble_eq_true rfl) ⟨Nat.le_of_ble_eq_true rfl, Nat.le_of_ble_eq_true rfl⟩ dX2_mark_15 ?_
  exact zj_iret X hQ (⟨rfl, rfl⟩) rfl (Nat.le_of_ble_eq_true rfl) (Nat.le_of_ble_eq_true rfl) dX2_mark_18

