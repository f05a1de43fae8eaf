set_option maxRecDepth 100000
/-! THE REFERENCE: the possible number, the means, the constructor -/
def fTh (σ : Nat → Nat → Int32) : Nat → Bool := fun w => decide (¬ σ 2 w = 0)
/-- cnt is the possible number -/
def fPos (n : Nat) (σ : Nat → Nat → Int32) (cap lim cnt : Nat) : Prop := ∃ (P : Nat → Nat → Bool) (att : Nat → Nat), fInv n lim (mFor σ) (fTh σ) P att ∧ (∀ w, w < n → fTh σ w = true → att w = cap) ∧ cnt = nS (fun w => fDg P w n) n
theorem fPos_u {n cap lim c d : Nat} {σ : Nat → Nat → Int32} (h : fPos n σ cap lim c) (h' : fPos n σ cap lim d) : c = d := by
  obtain ⟨P, a, h1, h2, h3⟩ := h
  obtain ⟨Y, b, g1, g2, g3⟩ := h'
  rw [h3, g3]
  exact fEq h1 g1 h2 g2
theorem fPos_c {n cap lim c : Nat} {σ σ' : Nat → Nat → Int32} (e : mEq σ σ') (h : fPos n σ cap lim c) : fPos n σ' cap lim c := by
  have e2 : fTh σ = fTh σ' := by
    funext w
    simp only [fTh, e 2 (by decide) (by decide)]
  obtain ⟨P, a, h1, h2, h3⟩ := h
  exact ⟨P, a, by rw [← mFor_f e, ← e2]; exact h1, by rw [← e2]; exact h2, h3⟩
theorem fInv_skip {n lim : Nat} {fo P : Nat → Nat → Bool} {th : Nat → Bool} {att : Nat → Nat} {w : Nat} (h : fInv n lim fo th P att) (ht : th w = false) : fInv n lim fo th P (fInc att w) := by
  obtain ⟨h1, R, h2, h3⟩ := h
  refine ⟨h1, R, h2, fun v hv => ?_⟩
  obtain ⟨g1, g2, g3⟩ := h3 v hv
  by_cases hvw : v = w
  · subst hvw
    rw [show fInc att v v = att v + 1 from if_pos rfl]
    exact ⟨by omega, fun z => (by rw [ht] at z; cases z), g3⟩
  · rw [show fInc att w v = att v from if_neg hvw]
    exact ⟨g1, g2, g3⟩
/-- how often each work had its turn -/
def fAtt (n : Nat) : Nat → Nat → Nat
  | 0 => fun _ => 0
  | k + 1 => fInc (fAtt n k) (k % n)
theorem fAtt_v {n : Nat} (hn : 0 < n) (k w : Nat) (hw : w < n) : fAtt n k w = if w < k % n then k / n + 1 else k / n := by
  induction k with
  | zero => simp [fAtt]
  | succ k ih =>
    have h1 := Nat.mod_lt k hn
    have hd := Nat.div_add_mod k n
    show (if w = k % n then fAtt n k w + 1 else fAtt n k w) = _
    rw [ih]
    by_cases h2 : k % n + 1 = n
    · have e1 : (k + 1) % n = 0 := by
        have : k + 1 = n * (k / n + 1) := by rw [Nat.mul_add]; omega
        rw [this, Nat.mul_mod_right]
      have e2 : (k + 1) / n = k / n + 1 := by
        have : k + 1 = n * (k / n + 1) := by rw [Nat.mul_add]; omega
        rw [this, Nat.mul_div_cancel_left _ hn]
      rw [e1, e2, if_neg (Nat.not_lt_zero _)]
      by_cases h3 : w = k % n
      · rw [if_pos h3, if_neg (by omega)]
      · rw [if_neg h3, if_pos (by omega)]
    · have e1 : (k + 1) % n = k % n + 1 := by
        have : k + 1 = n * (k / n) + (k % n + 1) := by omega
        rw [this, Nat.mul_add_mod, Nat.mod_eq_of_lt (by omega)]
      have e2 : (k + 1) / n = k / n := by
        have : k + 1 = n * (k / n) + (k % n + 1) := by omega
        rw [this, Nat.mul_add_div hn, Nat.div_eq_of_lt (show k % n + 1 < n by omega), Nat.add_zero]
      rw [e1, e2]
      by_cases h3 : w = k % n
      · rw [if_pos h3, if_neg (by omega), if_pos (by omega)]
      · rw [if_neg h3]
        by_cases h4 : w < k % n
        · rw [if_pos h4, if_pos (by omega)]
        · rw [if_neg h4, if_neg (by omega)]
theorem fAtt_end {n cap w : Nat} (hw : w < n) : fAtt n (cap * n) w = cap := by
  rw [fAtt_v (by omega) _ _ hw, Nat.mul_mod_left, if_neg (Nat.not_lt_zero _), Nat.mul_div_cancel _ (by omega)]
/-- the searches are at their beginning -/
def mClr (n : Nat) (σ : Nat → Nat → Int32) : Prop := (∀ j, j < 256 → σ 15 j = 0) ∧ ∀ j, j < 16 → σ 16 j = 0
theorem mClr_P {n : Nat} {σ : Nat → Nat → Int32} (hn : n ≤ 16) (h : mClr n σ) : mP n σ = fun _ _ => false := by
  funext p w
  by_cases hp : p < n
  · by_cases hw : w < n
    · rw [mP_at hp hw, h.1 _ (by omega)]
      decide
    · simp [mP, hw]
  · simp [mP, hp]
theorem fRc_0 (p k : Nat) : fRc (fun _ _ => false) p k = 0 := by
  induction k with
  | zero => rfl
  | succ k ih => rw [fRc, ih]; rfl
theorem mClr_C {n : Nat} {σ : Nat → Nat → Int32} (hn : n ≤ 16) (h : mClr n σ) : mCnt n σ := fun p hp => by
  rw [mClr_P hn h, fRc_0, h.2 p (by omega)]
  rfl
theorem mT_0 {n : Nat} {σ : Nat → Nat → Int32} {q : Nat} : mT n (zk σ 17 (mUp n (fun _ => 0) (σ 17))) q = false := by
  by_cases hq : q < n
  · rw [mT_at hq]
    show decide (¬ mUp n (fun _ => 0) (σ 17) q = 0) = false
    rw [mUp_lt hq]
    decide
  · simp [mT, hq]

set_option maxHeartbeats 4000000 in
theorem cm_possible (l : Launch) (g : zz_G) {h0 h : zz_H} {m : Nat} {ad : Nat → Nat} {n : Nat} {σ : Nat → Nat → Int32} (hM : MR h0 h m ad n σ) (x z : Int32) : zz_C l g yX2_possible cX2_possible 6 (some .int) (zz_rm (40) (1000) (0) (0)) [.ref m, .int x, .int z] h (fun v h' => if inB 1 5 x = true ∧ inB 1 16 z = true then ∃ cnt, fPos n σ (cN x) (cN z) cnt ∧ zm h0 m ad (nI cnt) 0 n σ v h' else zm h0 m ad 0 1 n σ v h') := by
  refine zz_C.of (by decide) (Nat.le_of_ble_eq_true rfl) (fun pP eE sS mM aA bB tT cC X Q hQ => ?_)
  have hn := hM.le
  refine zj_aload_n X dX2_possible_0 rfl ?_
  refine zj_iconst (v := 0) X dX2_possible_1 rfl ?_
  refine zm_th X hM q1155 (fun _ h => h) dX2_possible_2 (fun h9 σ1 hM hE h14 => ?_)
  refine zj_iload_n X dX2_possible_5 rfl ?_
  refine zj_iconst (v := 1) X dX2_possible_6 rfl ?_
  refine zj_iconst (v := 5) X dX2_possible_7 rfl ?_
  refine zj_callSp (n := 3) (As := [_, _, _]) X (cm_isBetween l g _ _ _ _) ⟨by decide, by decide, by decide +kernel⟩ (lw_S q1211 q1212 q50 q1213) ⟨Nat.le_of_ble_eq_true rfl, Nat.le_of_ble_eq_true rfl⟩ rfl rfl (Nat.le_of_ble_eq_true rfl) ⟨Nat.le_of_ble_eq_true rfl, Nat.le_of_ble_eq_true rfl⟩ dX2_possible_8 ?_
  refine zj_if_eq (tgt := 24) X dX2_possible_11 (by decide) (fun c_11 => ?_) (fun c_11 => ?_)
  · have e_11 : inB 1 5 x = false := zb_0.mp c_11
    refine zj_aload_n X dX2_possible_24 rfl ?_
    refine zj_iconst (v := 1) X dX2_possible_25 rfl ?_
    refine zj_callV (n := 1) (As := [_]) X (cm_fail l g hM _) hM.o rfl rfl ⟨by decide, by decide, by decide +kernel⟩ (lw_V q1233 q1235 qs24 q50 q1236) ⟨Nat.le_of_ble_eq_true rfl, Nat.le_of_ble_eq_true rfl⟩ rfl rfl (Nat.le_of_ble_eq_true rfl) ⟨Nat.le_of_ble_eq_true rfl, Nat.le_of_ble_eq_true rfl⟩ dX2_possible_26 (fun v_26 h_26 p_26 => ?_)
    obtain ⟨e_26, σ2, hM2, hE2, h142⟩ := p_26
    subst e_26
    have hE2 := hE2.tr hE
    exact zj_iret X hQ (by rw [if_neg (by simp [e_11])]; exact ⟨rfl, σ2, hM2, hE2, h142⟩) rfl (Nat.le_of_ble_eq_true rfl) (Nat.le_of_ble_eq_true rfl) dX2_possible_29
  · have e_11 : inB 1 5 x = true := zb_n.mp c_11
    refine zj_iload_n X dX2_possible_14 rfl ?_
    refine zj_iconst (v := 1) X dX2_possible_15 rfl ?_
    refine zj_bipush (v := 16) X dX2_possible_16 (by decide) ?_
    refine zj_callSp (n := 3) (As := [_, _, _]) X (cm_isBetween l g _ _ _ _) ⟨by decide, by decide, by decide +kernel⟩ (lw_S q1211 q1212 q50 q1213) ⟨Nat.le_of_ble_eq_true rfl, Nat.le_of_ble_eq_true rfl⟩ rfl rfl (Nat.le_of_ble_eq_true rfl) ⟨Nat.le_of_ble_eq_true rfl, Nat.le_of_ble_eq_true rfl⟩ dX2_possible_18 ?_
    refine zj_if_ne (tgt := 30) X dX2_possible_21 (by decide) (fun c_21 => ?_) (fun c_21 => ?_)
    · have e_21 : inB 1 16 z = true := zb_n.mp c_21
      obtain ⟨c, hc1, hc2, rfl⟩ := inB_t (a := 1) (b := 5) (by decide) (by decide) e_11
      obtain ⟨lim, hl1, hlim, rfl⟩ := inB_t (a := 1) (b := 16) (by decide) (by decide) e_21
      refine zj_iconst (v := 0) X dX2_possible_30 rfl ?_
      refine zj_istore_n X dX2_possible_31 (by decide) ?_
      have L_32 : ∀ k_32 : Nat, ∀ (k : Nat) (h : zz_H) (σi : Nat → Nat → Int32), MR h0 h m ad n σi → mEq σi σ → σi 14 0 = 0 → (∀ j, j < k → σi 15 j = 0 ∧ σi 16 (j % 16) = 0) → k ≤ 256 → 256 < k + k_32 → zz_J pP l eE (zz_rm (40) (1000) (0) (0)) sS mM aA bB tT cC g 6 Q h 0 0 32 [(0, .ref m), (1, .int (nI c)), (2, .int (nI lim)), (3, .int (nI k))] [] := by
        intro k_32
        induction k_32 with
        | zero =>
          intro k h σi hM hE h4 hz h1 h2
          omega
        | succ k_32 ih_32 =>
          intro k h σi hM hE h4 hz h1 h2
          refine zj_iload_n X dX2_possible_32 rfl ?_
          refine zj_sipush (v := 256) X dX2_possible_33 (by decide) ?_
          refine zj_icmp_ge (tgt := 62) X dX2_possible_36 (by decide) (fun c_36 => ?_) (fun c_36 => ?_)
          · have e_36 : k = 256 := zi_ge (n := 256) h1 (by omega) c_36
            refine zj_iconst (v := 0) X dX2_possible_62 rfl ?_
            refine zj_istore_n X dX2_possible_63 (by decide) ?_
            refine zj_iconst (v := 0) X dX2_possible_64 rfl ?_
            refine zj_istore X dX2_possible_65 (by decide) ?_
            have hcn : c * n ≤ 80 := Nat.mul_le_mul hc2 hn
            have hclr : mClr n σi := ⟨fun j hj => (hz j (by omega)).1, fun j hj => by have := (hz j (by omega)).2; rwa [Nat.mod_eq_of_lt hj] at this⟩
            have hI0 : fInv n lim (mFor σ) (fTh σ) (mP n σi) (fAtt n 0) := by rw [mClr_P hn hclr]; exact fInv_0.1
            have L_67 : ∀ k_67 : Nat, ∀ (k : Nat) (h : zz_H) (σi : Nat → Nat → Int32), MR h0 h m ad n σi → mEq σi σ → σi 14 0 = 0 → mCnt n σi → fInv n lim (mFor σ) (fTh σ) (mP n σi) (fAtt n k) → k ≤ c * n → c * n < k + k_67 → zz_J pP l eE (zz_rm (40) (1000) (0) (0)) sS mM aA bB tT cC g 6 Q h 0 0 67 [(0, .ref m), (1, .int (nI c)), (2, .int (nI lim)), (3, .int (nI (nS (fun w => fDg (mP n σi) w n) n))), (4, .int (nI k))] [] := by
              intro k_67
              induction k_67 with
              | zero =>
                intro k h σi hM hE h4 hC hI h1 h2
                omega
              | succ k_67 ih_67 =>
                intro k h σi hM hE h4 hC hI h1 h2
                refine zj_iload X dX2_possible_67 rfl ?_
                refine zj_iload_n X dX2_possible_69 rfl ?_
                refine zj_aload_n X dX2_possible_70 rfl ?_
                refine zj_get X in_X2 rfl 0 (by decide) q1141 (fun _ h => h) hM.o rfl (Or.inl (by decide)) dX2_possible_71 ?_
                refine zj_imul X dX2_possible_74 ?_
                refine zj_top (x' := nI (c * n)) (pk_mul c n) ?_
                refine zj_icmp_ge (tgt := 148) X dX2_possible_75 (by decide) (fun c_75 => ?_) (fun c_75 => ?_)
                · have e_75 := zi_ge h1 (by omega) c_75
                  refine zj_iload_n X dX2_possible_148 rfl ?_
                  exact zj_iret X hQ (by rw [if_pos ⟨e_11, e_21⟩, cN_j (by omega), cN_j (by omega)]; exact ⟨_, ⟨mP n σi, fAtt n k, hI, fun w hw _ => by rw [e_75]; exact fAtt_end hw, rfl⟩, rfl, σi, hM, hE, h4⟩) rfl (Nat.le_of_ble_eq_true rfl) (Nat.le_of_ble_eq_true rfl) dX2_possible_149
                · have e_75 := zi_lt h1 (by omega) c_75
                  have hn0 : 0 < n := by
                    rcases Nat.eq_zero_or_pos n with z | z
                    · rw [z, Nat.mul_zero] at e_75; omega
                    · exact z
                  have hw : k % n < n := Nat.mod_lt _ hn0
                  refine zj_iconst (v := 0) X dX2_possible_78 rfl ?_
                  refine zj_istore X dX2_possible_79 (by decide) ?_
                  have L_81 : ∀ k_81 : Nat, ∀ (i : Nat) (h : zz_H), MR h0 h m ad n (zk σi 17 (mUp i (fun _ => 0) (σi 17))) → i ≤ n → n < i + k_81 → zz_J pP l eE (zz_rm (40) (1000) (0) (0)) sS mM aA bB tT cC g 6 Q h 0 0 81 [(0, .ref m), (1, .int (nI c)), (2, .int (nI lim)), (3, .int (nI (nS (fun w => fDg (mP n σi) w n) n))), (4, .int (nI k)), (5, .int (nI i))] [] := by
                    intro k_81
                    induction k_81 with
                    | zero =>
                      intro i h hM h1 h2
                      omega
                    | succ k_81 ih_81 =>
                      intro i h hM h1 h2
                      refine zj_iload X dX2_possible_81 rfl ?_
                      refine zj_aload_n X dX2_possible_83 rfl ?_
                      refine zj_get X in_X2 rfl 0 (by decide) q1141 (fun _ h => h) hM.o rfl (Or.inl (by decide)) dX2_possible_84 ?_
                      refine zj_icmp_ge (tgt := 104) X dX2_possible_87 (by decide) (fun c_87 => ?_) (fun c_87 => ?_)
                      · have e_87 := zi_ge h1 (by omega) c_87
                        rw [e_87] at hM
                        have hEj : mEq (zk σi 17 (mUp n (fun _ => 0) (σi 17))) σi := mEq.rf.scr (by decide) _
                        refine zj_iload_n X dX2_possible_104 rfl ?_
                        refine zj_aload_n X dX2_possible_105 rfl ?_
                        refine zj_get X in_X2 rfl 2 (by decide) q1143 (fun _ h => h) hM.o rfl (Or.inl (by decide)) dX2_possible_106 ?_
                        refine zj_iload X dX2_possible_109 rfl ?_
                        refine zj_aload_n X dX2_possible_111 rfl ?_
                        refine zj_get X in_X2 rfl 0 (by decide) q1141 (fun _ h => h) hM.o rfl (Or.inl (by decide)) dX2_possible_112 ?_
                        refine zj_irem X dX2_possible_115 (nI_ne0 hn0 (by omega)) ?_
                        refine zj_top (x' := nI (k % n)) (pk_rem (by omega) (by omega) (by omega)) ?_
                        refine zj_zald X (hM.arr 2 rfl) (rfl) (by show _ < 16; omega) (by omega) dX2_possible_116 ?_
                        refine zj_if_eq (tgt := 139) X dX2_possible_117 (by decide) (fun c_117 => ?_) (fun c_117 => ?_)
                        · refine zj_iconst (v := 0) X dX2_possible_139 rfl ?_
                          refine zj_iadd X dX2_possible_140 ?_
                          refine zj_istore_n X dX2_possible_141 (by decide) ?_
                          refine zj_iinc X dX2_possible_142 rfl (zi_1 k) (by decide) ?_
                          refine zj_goto (tgt := 67) X dX2_possible_145 (by decide) ?_
                          have hth : fTh σ (k % n) = false := decide_eq_false (fun z => z (by rw [← hE 2 (by decide) (by decide)]; exact c_117))
                          exact zj_lo (ih_67 (k + 1) _ (zk σi 17 (mUp n (fun _ => 0) (σi 17))) hM (hEj.tr hE) h4 hC (fInv_skip hI hth) (by omega) (by omega)) ⟨rfl, rfl, rfl, zi_c (Int32.add_zero _), rfl, trivial⟩
                        · refine zj_aload_n X dX2_possible_120 rfl ?_
                          refine zj_iload X dX2_possible_121 rfl ?_
                          refine zj_aload_n X dX2_possible_123 rfl ?_
                          refine zj_get X in_X2 rfl 0 (by decide) q1141 (fun _ h => h) hM.o rfl (Or.inl (by decide)) dX2_possible_124 ?_
                          refine zj_irem X dX2_possible_127 (nI_ne0 hn0 (by omega)) ?_
                          refine zj_top (x' := nI (k % n)) (pk_rem (by omega) (by omega) (by omega)) ?_
                          refine zj_iload_n X dX2_possible_128 rfl ?_
                          refine zj_callV (n := 2) (As := [_, _]) X ((cm_gy l g n).1 hM lim hlim hC (by rw [mFor_f (hEj.tr hE)]; exact hI.1) (k % n) hw (fUn_le _ n)) hM.o rfl rfl ⟨by decide, by decide, by decide +kernel⟩ (lw_V q1303 q1305 qs32 q50 q1306) ⟨by dsimp only; omega, by dsimp only; omega⟩ rfl rfl (Nat.le_of_ble_eq_true rfl) ⟨Nat.le_of_ble_eq_true rfl, Nat.le_of_ble_eq_true rfl⟩ dX2_possible_129 (fun v_129 h_129 p_129 => ?_)
                          obtain ⟨b, σ3, e_v, hM3, hE3, h43, hC3, hY2, hN2⟩ := p_129
                          subst e_v
                          refine zj_if_eq (tgt := 139) X dX2_possible_132 (by decide) (fun c_132 => ?_) (fun c_132 => ?_)
                          · have e_132 := zb_0.mp c_132
                            refine zj_iconst (v := 0) X dX2_possible_139 rfl ?_
                            refine zj_iadd X dX2_possible_140 ?_
                            refine zj_istore_n X dX2_possible_141 (by decide) ?_
                            refine zj_iinc X dX2_possible_142 rfl (zi_1 k) (by decide) ?_
                            refine zj_goto (tgt := 67) X dX2_possible_145 (by decide) ?_
                            have hy := hN2 e_132
                            rw [mP_17, mFor_f (hEj.tr hE)] at hy
                            obtain ⟨hI2, hcnt⟩ := fInv_no hI hw (decide_eq_true (by rw [← hE 2 (by decide) (by decide)]; exact c_117)) (fun q _ => mT_0) hy
                            exact zj_lo (ih_67 (k + 1) _ σ3 hM3 (hE3.tr (hEj.tr hE)) (h43.trans h4) hC3 hI2 (by omega) (by omega)) ⟨rfl, rfl, rfl, zi_c (by rw [hcnt]; exact Int32.add_zero _), rfl, trivial⟩
                          · have e_132 := zb_n.mp c_132
                            refine zj_iconst (v := 1) X dX2_possible_135 rfl ?_
                            refine zj_goto (tgt := 140) X dX2_possible_136 (by decide) ?_
                            refine zj_iadd X dX2_possible_140 ?_
                            refine zj_istore_n X dX2_possible_141 (by decide) ?_
                            refine zj_iinc X dX2_possible_142 rfl (zi_1 k) (by decide) ?_
                            refine zj_goto (tgt := 67) X dX2_possible_145 (by decide) ?_
                            have hy := hY2 e_132
                            rw [mP_17, mFor_f (hEj.tr hE)] at hy
                            obtain ⟨hI2, hcnt⟩ := fInv_yes hI hw (decide_eq_true (by rw [← hE 2 (by decide) (by decide)]; exact c_117)) hy
                            exact zj_lo (ih_67 (k + 1) _ σ3 hM3 (hE3.tr (hEj.tr hE)) (h43.trans h4) hC3 hI2 (by omega) (by omega)) ⟨rfl, rfl, rfl, zi_c (by rw [hcnt]; exact nI_1 _), rfl, trivial⟩
                      · have e_87 := zi_lt h1 (by omega) c_87
                        refine zj_aload_n X dX2_possible_90 rfl ?_
                        refine zj_get X in_X2 rfl 17 (by decide) q1158 (fun _ h => h) hM.o rfl (Or.inl (by decide)) dX2_possible_91 ?_
                        refine zj_iload X dX2_possible_94 rfl ?_
                        refine zj_iconst (v := 0) X dX2_possible_96 rfl ?_
                        refine zm_za X hM 17 rfl (rfl) (by show _ < 16; omega) (nar_0) dX2_possible_97 (fun h9 hM => ?_)
                        refine zj_iinc X dX2_possible_98 rfl (zi_1 i) (by decide) ?_
                        refine zj_goto (tgt := 81) X dX2_possible_101 (by decide) ?_
                        exact zj_lo (ih_81 (i + 1) _ (by rw [mUpd (f := fun _ => 0) rfl] at hM; exact hM) (by omega) (by omega)) ⟨rfl, rfl, rfl, rfl, rfl, rfl, trivial⟩
                  exact zj_lo (L_81 (n + 1) 0 _ (by rw [mUp_0, zk_id]; exact hM) (Nat.zero_le _) (by omega)) ⟨rfl, rfl, rfl, rfl, rfl, rfl, trivial⟩
            exact zj_lo (L_67 (c * n + 1) 0 _ σi hM hE h4 (mClr_C hn hclr) hI0 (Nat.zero_le _) (by omega)) ⟨rfl, rfl, rfl, zi_c (by rw [mClr_P hn hclr, (fInv_0 (n := n) (lim := lim) (fo := mFor σ) (th := fTh σ)).2]; rfl), rfl, trivial⟩
          · have e_36 : k < 256 := zi_lt (n := 256) h1 (by omega) c_36
            refine zj_aload_n X dX2_possible_39 rfl ?_
            refine zj_get X in_X2 rfl 15 (by decide) q1156 (fun _ h => h) hM.o rfl (Or.inl (by decide)) dX2_possible_40 ?_
            refine zj_iload_n X dX2_possible_43 rfl ?_
            refine zj_iconst (v := 0) X dX2_possible_44 rfl ?_
            refine zm_za X hM 15 rfl (rfl) (by show _ < 256; omega) (nar_0) dX2_possible_45 (fun h9 hM => ?_)
            refine zj_aload_n X dX2_possible_46 rfl ?_
            refine zj_get X in_X2 rfl 16 (by decide) q1157 (fun _ h => h) hM.o rfl (Or.inl (by decide)) dX2_possible_47 ?_
            refine zj_iload_n X dX2_possible_50 rfl ?_
            refine zj_bipush (v := 16) X dX2_possible_51 (by decide) ?_
            refine zj_irem X dX2_possible_53 (by decide) ?_
            refine zj_top (x' := nI (k % 16)) (pk_rem (d := 16) (by omega) (by decide) (by decide)) ?_
            refine zj_iconst (v := 0) X dX2_possible_54 rfl ?_
            refine zm_ia X hM 16 rfl (rfl) (by show _ < 16; omega) dX2_possible_55 (fun h9 hM => ?_)
            refine zj_iinc X dX2_possible_56 rfl (zi_1 k) (by decide) ?_
            refine zj_goto (tgt := 32) X dX2_possible_59 (by decide) ?_
            exact zj_lo (ih_32 (k + 1) _ _ hM ((hE.scr (by decide) _).scr (by decide) _) h4 (fun j hj => by
              show upd (σi 15) k 0 j = 0 ∧ upd (σi 16) (k % 16) 0 (j % 16) = 0
              by_cases hjk : j = k
              · subst hjk
                exact ⟨pk_us, pk_us⟩
              · obtain ⟨z1, z2⟩ := hz j (by omega)
                refine ⟨by rw [pk_un hjk]; exact z1, ?_⟩
                by_cases hm : j % 16 = k % 16
                · rw [hm]; exact pk_us
                · rw [pk_un hm]; exact z2) (by omega) (by omega)) ⟨rfl, rfl, rfl, rfl, trivial⟩
      exact zj_lo (L_32 257 0 _ σ1 hM hE h14 (fun j hj => absurd hj (Nat.not_lt_zero j)) (Nat.zero_le _) (by omega)) ⟨rfl, rfl, rfl, rfl, trivial⟩
    · have e_21 : inB 1 16 z = false := zb_0.mp c_21
      refine zj_aload_n X dX2_possible_24 rfl ?_
      refine zj_iconst (v := 1) X dX2_possible_25 rfl ?_
      refine zj_callV (n := 1) (As := [_]) X (cm_fail l g hM _) hM.o rfl rfl ⟨by decide, by decide, by decide +kernel⟩ (lw_V q1233 q1235 qs24 q50 q1236) ⟨Nat.le_of_ble_eq_true rfl, Nat.le_of_ble_eq_true rfl⟩ rfl rfl (Nat.le_of_ble_eq_true rfl) ⟨Nat.le_of_ble_eq_true rfl, Nat.le_of_ble_eq_true rfl⟩ dX2_possible_26 (fun v_26 h_26 p_26 => ?_)
      obtain ⟨e_26, σ2, hM2, hE2, h142⟩ := p_26
      subst e_26
      have hE2 := hE2.tr hE
      exact zj_iret X hQ (by rw [if_neg (by simp [e_21])]; exact ⟨rfl, σ2, hM2, hE2, h142⟩) rfl (Nat.le_of_ble_eq_true rfl) (Nat.le_of_ble_eq_true rfl) dX2_possible_29

