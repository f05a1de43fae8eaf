set_option maxRecDepth 100000
/-! THE REFERENCE: the possible number -/
def mP (n : Nat) (σ : Nat → Nat → Int32) : Nat → Nat → Bool := fun p w => decide (p < n) && (decide (w < n) && decide (¬ σ 15 (16 * w + p) = 0))
def mT (n : Nat) (σ : Nat → Nat → Int32) : Nat → Bool := fun p => decide (p < n) && decide (¬ σ 17 p = 0)
/-- the counts are those of the pairs -/
def mCnt (n : Nat) (σ : Nat → Nat → Int32) : Prop := ∀ p, p < n → σ 16 p = nI (fRc (mP n σ) p n)
def stPair (σ : Nat → Nat → Int32) (p w : Nat) (b : Bool) : Nat → Nat → Int32 := zk (zk σ 15 (upd (σ 15) (16 * w + p) (zb b))) 16 (upd (σ 16) p (σ 16 p + (if b = true then 1 else -1)))
section MF
variable {n p w : Nat} {σ : Nat → Nat → Int32}
theorem mP_at (hp : p < n) (hw : w < n) : mP n σ p w = decide (¬ σ 15 (16 * w + p) = 0) := by simp [mP, hp, hw]
theorem mT_at (hp : p < n) : mT n σ p = decide (¬ σ 17 p = 0) := by simp [mT, hp]
theorem mP_17 {f : Nat → Int32} : mP n (zk σ 17 f) = mP n σ := rfl
theorem mP_set (hn : n ≤ 16) (hp : p < n) (hw : w < n) (b : Bool) : mP n (stPair σ p w b) = fSet (mP n σ) p w b := by
  funext q v
  by_cases hq : q < n
  · by_cases hv : v < n
    · rw [mP_at hq hv]
      show decide (¬ upd (σ 15) (16 * w + p) (zb b) (16 * v + q) = 0) = _
      by_cases h : q = p ∧ v = w
      · obtain ⟨rfl, rfl⟩ := h
        rw [pk_us, fSet_s]
        cases b <;> decide
      · rw [pk_un (fun z => h (by omega)), fSet_n h, mP_at hq hv]
    · rw [fSet_n (fun z => hv (by omega))]
      simp [mP, hv]
  · rw [fSet_n (fun z => hq (by omega))]
    simp [mP, hq]
theorem mT_set {b : Bool} : mT n (stPair σ p w b) = mT n σ := rfl
theorem mT_tr (hp : p < n) : mT n (zk σ 17 (upd (σ 17) p 1)) = fAdd (mT n σ) p := by
  funext q
  by_cases hq : q = p
  · subst hq
    rw [mT_at hp, fAdd, if_pos rfl]
    show decide (¬ upd (σ 17) q 1 q = 0) = true
    rw [pk_us]
    decide
  · rw [fAdd, if_neg hq]
    show (decide (q < n) && decide (¬ upd (σ 17) p 1 q = 0)) = _
    rw [pk_un hq]
    rfl
theorem mCnt_17 {f : Nat → Int32} (h : mCnt n σ) : mCnt n (zk σ 17 f) := h
theorem mCnt_on (hn : n ≤ 16) (h : mCnt n σ) (hp : p < n) (hw : w < n) (h0 : mP n σ p w = false) : mCnt n (stPair σ p w true) := by
  intro q hq
  rw [mP_set hn hp hw]
  show upd (σ 16) p (σ 16 p + (if true = true then 1 else -1)) q = _
  by_cases hqp : q = p
  · subst hqp
    rw [pk_us, fRc_on h0, if_pos hw, h q hq, if_pos rfl, nI_1]
  · rw [pk_un hqp, fRc_c (fun v => fSet_n (fun z => hqp z.1)), h q hq]
theorem mCnt_off (hn : n ≤ 16) (h : mCnt n σ) (hp : p < n) (hw : w < n) (h0 : mP n σ p w = true) : mCnt n (stPair σ p w false) := by
  intro q hq
  rw [mP_set hn hp hw]
  show upd (σ 16) p (σ 16 p + (if false = true then 1 else -1)) q = _
  by_cases hqp : q = p
  · subst hqp
    have e := fRc_off h0 hw
    rw [pk_us, h q hq, ← e, if_neg (by decide)]
    exact pk_m1 _
  · rw [pk_un hqp, fRc_c (fun v => fSet_n (fun z => hqp z.1)), h q hq]
theorem mEq_pair {b : Bool} : mEq (stPair σ p w b) σ := (mEq.rf.scr (by decide) _).scr (by decide) _
theorem mFor_f {σ' : Nat → Nat → Int32} (h : mEq σ σ') : mFor σ = mFor σ' := funext fun _ => funext fun _ => mFor_c h
end MF
/-- how a search ends -/
def mGQ (h0 : zz_H) (m : Nat) (ad : Nat → Nat) (n : Nat) (σ : Nat → Nat → Int32) (Y N : (Nat → Nat → Bool) → (Nat → Bool) → Prop) : Option Value → zz_H → Prop := fun v h' =>
  ∃ (b : Bool) (σ' : Nat → Nat → Int32), v = some (.int (zb b)) ∧ MR h0 h' m ad n σ' ∧ mEq σ' σ ∧ σ' 14 0 = σ 14 0 ∧ mCnt n σ' ∧ (b = true → Y (mP n σ') (mT n σ')) ∧ (b = false → N (mP n σ') (mT n σ'))
def mG (l : Launch) (g : zz_G) (d : Nat) : Prop := ∀ {h0 h : zz_H} {m : Nat} {ad : Nat → Nat} {n : Nat} {σ : Nat → Nat → Int32} (_ : MR h0 h m ad n σ) (lim : Nat) (_ : lim ≤ 16) (_ : mCnt n σ) (_ : fVal n lim (mFor σ) (mP n σ)) (w : Nat) (_ : w < n) (_ : fUn (mT n σ) n ≤ d),
  zz_C l g yX2_gain cX2_gain 4 (some .boolean) (zz_rm (2 * d + 4) (46 * d + 100) 0 0) [.ref m, .int (nI w), .int (nI lim)] h (mGQ h0 m ad n σ (fYes n lim (mFor σ) w (mP n σ) (mT n σ)) (fNo n lim (mFor σ) w (mP n σ) (mT n σ)))
def mY (l : Launch) (g : zz_G) (d : Nat) : Prop := ∀ {h0 h : zz_H} {m : Nat} {ad : Nat → Nat} {n : Nat} {σ : Nat → Nat → Int32} (_ : MR h0 h m ad n σ) (lim : Nat) (_ : lim ≤ 16) (_ : mCnt n σ) (_ : fVal n lim (mFor σ) (mP n σ)) (p : Nat) (_ : p < n) (_ : mT n σ p = true) (_ : fUn (mT n σ) n ≤ d),
  zz_C l g yX2_canYield cX2_canYield 4 (some .boolean) (zz_rm (2 * d + 5) (46 * d + 123) 0 0) [.ref m, .int (nI p), .int (nI lim)] h (mGQ h0 m ad n σ (fYYes n lim (mFor σ) p (mP n σ) (mT n σ)) (fYNo n lim (mFor σ) p (mP n σ) (mT n σ)))

set_option maxHeartbeats 4000000 in
theorem cm_pair (l : Launch) (g : zz_G) {h0 h : zz_H} {m : Nat} {ad : Nat → Nat} {n : Nat} {σ : Nat → Nat → Int32} (hM : MR h0 h m ad n σ) (p w : Nat) (hp : p < n) (hw : w < n) (b : Bool) : zz_C l g yX2_pair cX2_pair 4 none (zz_rm 2 41 0 0) [.ref m, .int (nI p), .int (nI w), .int (zb b)] h (fun r h' => r = none ∧ MR h0 h' m ad n (stPair σ p w b)) := by
  refine zz_C.of (by decide) (Nat.le_of_ble_eq_true rfl) (fun pP eE sS mM aA bB tT cC X Q hQ => ?_)
  have hn := hM.le
  refine zj_aload_n X dX2_pair_0 rfl ?_
  refine zj_get X in_X2 rfl 15 (by decide) q1156 (fun _ h => h) hM.o rfl (Or.inl (by decide)) dX2_pair_1 ?_
  refine zj_iload_n X dX2_pair_4 rfl ?_
  refine zj_iload_n X dX2_pair_5 rfl ?_
  refine zj_callSp (n := 2) (As := [_, _]) X (cm_at l g _ _ _) ⟨by decide, by decide, by decide +kernel⟩ (lw_S q1264 q1265 q50 q1266) ⟨Nat.le_of_ble_eq_true rfl, Nat.le_of_ble_eq_true rfl⟩ rfl rfl (Nat.le_of_ble_eq_true rfl) ⟨Nat.le_of_ble_eq_true rfl, Nat.le_of_ble_eq_true rfl⟩ dX2_pair_6 ?_
  refine zj_iload_n X dX2_pair_9 rfl ?_
  refine zm_za X hM 15 rfl (rfl) (by show _ < 256; omega) (zb_and b) dX2_pair_10 (fun h9 hM => ?_)
  refine zj_aload_n X dX2_pair_11 rfl ?_
  refine zj_get X in_X2 rfl 16 (by decide) q1157 (fun _ h => h) hM.o rfl (Or.inl (by decide)) dX2_pair_12 ?_
  refine zj_iload_n X dX2_pair_15 rfl ?_
  refine zj_dup2 X dX2_pair_16 rfl rfl ?_
  refine zj_iald X (hM.arr 16 rfl) (rfl) (by show _ < 16; omega) (by omega) dX2_pair_17 ?_
  refine zj_iload_n X dX2_pair_18 rfl ?_
  refine zj_if_eq (tgt := 26) X dX2_pair_19 (by decide) (fun c_19 => ?_) (fun c_19 => ?_)
  · have e_19 := zb_0.mp c_19
    subst e_19
    refine zj_iconst (v := (-1)) X dX2_pair_26 rfl ?_
    refine zj_iadd X dX2_pair_27 ?_
    refine zm_ia X hM 16 rfl (rfl) (by show _ < 16; omega) dX2_pair_28 (fun h9 hM => ?_)
    exact zj_vret X hQ (⟨rfl, hM⟩) rfl (Nat.le_of_ble_eq_true rfl) (Nat.le_of_ble_eq_true rfl) dX2_pair_29
  · have e_19 := zb_n.mp c_19
    subst e_19
    refine zj_iconst (v := 1) X dX2_pair_22 rfl ?_
    refine zj_goto (tgt := 27) X dX2_pair_23 (by decide) ?_
    refine zj_iadd X dX2_pair_27 ?_
    refine zm_ia X hM 16 rfl (rfl) (by show _ < 16; omega) dX2_pair_28 (fun h9 hM => ?_)
    exact zj_vret X hQ (⟨rfl, hM⟩) rfl (Nat.le_of_ble_eq_true rfl) (Nat.le_of_ble_eq_true rfl) dX2_pair_29

set_option maxHeartbeats 4000000 in
theorem cm_gain_s (l : Launch) (g : zz_G) (d : Nat) (hY : ∀ d', d = d' + 1 → mY l g d') {h0 h : zz_H} {m : Nat} {ad : Nat → Nat} {n : Nat} {σ : Nat → Nat → Int32} (hM : MR h0 h m ad n σ) (lim : Nat) (hlim : lim ≤ 16) (hC : mCnt n σ) (hV : fVal n lim (mFor σ) (mP n σ)) (w : Nat) (hw : w < n) (hd : fUn (mT n σ) n ≤ d) : zz_C l g yX2_gain cX2_gain 4 (some .boolean) (zz_rm (2 * d + 4) (46 * d + 100) (0) (0)) [.ref m, .int (nI w), .int (nI lim)] h (mGQ h0 m ad n σ (fYes n lim (mFor σ) w (mP n σ) (mT n σ)) (fNo n lim (mFor σ) w (mP n σ) (mT n σ))) := by
  refine zz_C.of (by decide) (Nat.le_of_ble_eq_true rfl) (fun pP eE sS mM aA bB tT cC X Q hQ => ?_)
  have hn := hM.le
  refine zj_iconst (v := 0) X dX2_gain_0 rfl ?_
  refine zj_istore_n X dX2_gain_1 (by decide) ?_
  have L_2 : ∀ k_2 : Nat, ∀ (i : Nat) (h : zz_H) (σi : Nat → Nat → Int32), MR h0 h m ad n σi → mEq σi σ → σi 14 0 = σ 14 0 → mP n σi = mP n σ → mCnt n σi → fSub (mT n σ) (mT n σi) → fNew n lim (mFor σ) (mP n σ) (mT n σ) (mT n σi) → (∀ q, q < i → mFor σ q w = true → mP n σ q w = false → mT n σi q = true) → i ≤ n → n < i + k_2 → zz_J pP l eE (zz_rm (2 * d + 4) (46 * d + 100) (0) (0)) sS mM aA bB tT cC g 4 Q h 0 0 2 [(0, .ref m), (1, .int (nI w)), (2, .int (nI lim)), (3, .int (nI i))] [] := by
    intro k_2
    induction k_2 with
    | zero =>
      intro i h σi hM hE h4 hP hCi hS hN hW h1 h2
      omega
    | succ k_2 ih_2 =>
      intro i h σi hM hE h4 hP hCi hS hN hW h1 h2
      refine zj_iload_n X dX2_gain_2 rfl ?_
      refine zj_aload_n X dX2_gain_3 rfl ?_
      refine zj_get X in_X2 rfl 0 (by decide) q1141 (fun _ h => h) hM.o rfl (Or.inl (by decide)) dX2_gain_4 ?_
      refine zj_icmp_ge (tgt := 82) X dX2_gain_7 (by decide) (fun c_7 => ?_) (fun c_7 => ?_)
      · have e_7 := zi_ge h1 (by omega) c_7
        refine zj_iconst (v := 0) X dX2_gain_82 rfl ?_
        exact zj_zret X hQ (⟨false, σi, rfl, hM, hE, h4, hCi, fun z => (nomatch z), fun _ => ⟨hP, hS, hN, fun q hq => hW q (by omega)⟩⟩) rfl (by decide) (Nat.le_of_ble_eq_true rfl) (Nat.le_of_ble_eq_true rfl) dX2_gain_83
      · have e_7 := zi_lt h1 (by omega) c_7
        refine zj_aload_n X dX2_gain_10 rfl ?_
        refine zj_iload_n X dX2_gain_11 rfl ?_
        refine zj_iload_n X dX2_gain_12 rfl ?_
        refine zj_callVp (n := 2) (As := [_, _]) X (cm_isForeign l g hM i w e_7 hw) hM.o rfl rfl ⟨by decide, by decide, by decide +kernel⟩ (lw_V q1275 q1277 qs29 q50 q1278) ⟨by dsimp only; omega, by dsimp only; omega⟩ rfl rfl (Nat.le_of_ble_eq_true rfl) ⟨Nat.le_of_ble_eq_true rfl, Nat.le_of_ble_eq_true rfl⟩ dX2_gain_13 ?_
        refine zj_if_eq (tgt := 76) X dX2_gain_16 (by decide) (fun c_16 => ?_) (fun c_16 => ?_)
        · have e_16 := zb_0.mp c_16
          refine zj_iinc X dX2_gain_76 rfl (zi_1 i) (by decide) ?_
          refine zj_goto (tgt := 2) X dX2_gain_79 (by decide) ?_
          exact zj_lo (ih_2 (i + 1) _ σi hM hE h4 hP hCi hS hN (fun q hq h5 h6 => by
            rcases Nat.lt_or_ge q i with z | z
            · exact hW q z h5 h6
            · have e_i : q = i := by omega
              subst e_i
              rw [mFor_c hE] at e_16; rw [e_16] at h5; cases h5) (by omega) (by omega)) ⟨rfl, rfl, rfl, rfl, trivial⟩
        · have e_16 := zb_n.mp c_16
          rw [mFor_c hE] at e_16
          refine zj_aload_n X dX2_gain_19 rfl ?_
          refine zj_get X in_X2 rfl 15 (by decide) q1156 (fun _ h => h) hM.o rfl (Or.inl (by decide)) dX2_gain_20 ?_
          refine zj_iload_n X dX2_gain_23 rfl ?_
          refine zj_iload_n X dX2_gain_24 rfl ?_
          refine zj_callSp (n := 2) (As := [_, _]) X (cm_at l g _ _ _) ⟨by decide, by decide, by decide +kernel⟩ (lw_S q1264 q1265 q50 q1266) ⟨by dsimp only; omega, by dsimp only; omega⟩ rfl rfl (Nat.le_of_ble_eq_true rfl) ⟨Nat.le_of_ble_eq_true rfl, Nat.le_of_ble_eq_true rfl⟩ dX2_gain_25 ?_
          refine zj_zald X (hM.arr 15 rfl) (rfl) (by show _ < 256; omega) (by omega) dX2_gain_28 ?_
          refine zj_if_ne (tgt := 76) X dX2_gain_29 (by decide) (fun c_29 => ?_) (fun c_29 => ?_)
          · refine zj_iinc X dX2_gain_76 rfl (zi_1 i) (by decide) ?_
            refine zj_goto (tgt := 2) X dX2_gain_79 (by decide) ?_
            exact zj_lo (ih_2 (i + 1) _ σi hM hE h4 hP hCi hS hN (fun q hq h5 h6 => by
              rcases Nat.lt_or_ge q i with z | z
              · exact hW q z h5 h6
              · have e_i : q = i := by omega
                subst e_i
                rw [← hP, mP_at e_7 hw] at h6; exact absurd (of_decide_eq_false h6) (fun z => z c_29)) (by omega) (by omega)) ⟨rfl, rfl, rfl, rfl, trivial⟩
          · have hP0 : mP n σ i w = false := by rw [← hP, mP_at e_7 hw]; exact decide_eq_false (fun z => z c_29)
            refine zj_aload_n X dX2_gain_32 rfl ?_
            refine zj_get X in_X2 rfl 17 (by decide) q1158 (fun _ h => h) hM.o rfl (Or.inl (by decide)) dX2_gain_33 ?_
            refine zj_iload_n X dX2_gain_36 rfl ?_
            refine zj_zald X (hM.arr 17 rfl) (rfl) (by show _ < 16; omega) (by omega) dX2_gain_37 ?_
            refine zj_if_ne (tgt := 76) X dX2_gain_38 (by decide) (fun c_38 => ?_) (fun c_38 => ?_)
            · refine zj_iinc X dX2_gain_76 rfl (zi_1 i) (by decide) ?_
              refine zj_goto (tgt := 2) X dX2_gain_79 (by decide) ?_
              exact zj_lo (ih_2 (i + 1) _ σi hM hE h4 hP hCi hS hN (fun q hq h5 h6 => by
                rcases Nat.lt_or_ge q i with z | z
                · exact hW q z h5 h6
                · have e_i : q = i := by omega
                  subst e_i
                  rw [mT_at e_7]; exact decide_eq_true c_38) (by omega) (by omega)) ⟨rfl, rfl, rfl, rfl, trivial⟩
            · have hTi : mT n σi i = false := by rw [mT_at e_7]; exact decide_eq_false (fun z => z c_38)
              have hEa : mEq (zk σi 17 (upd (σi 17) i 1)) σi := mEq.rf.scr (by decide) _
              refine zj_aload_n X dX2_gain_41 rfl ?_
              refine zj_get X in_X2 rfl 17 (by decide) q1158 (fun _ h => h) hM.o rfl (Or.inl (by decide)) dX2_gain_42 ?_
              refine zj_iload_n X dX2_gain_45 rfl ?_
              refine zj_iconst (v := 1) X dX2_gain_46 rfl ?_
              refine zm_za X hM 17 rfl (rfl) (by show _ < 16; omega) (nar_1) dX2_gain_47 (fun h9 hM => ?_)
              refine zj_aload_n X dX2_gain_48 rfl ?_
              refine zj_get X in_X2 rfl 16 (by decide) q1157 (fun _ h => h) hM.o rfl (Or.inl (by decide)) dX2_gain_49 ?_
              refine zj_iload_n X dX2_gain_52 rfl ?_
              refine zj_iald X (hM.arr 16 rfl) (rfl) (by show _ < 16; omega) (by omega) dX2_gain_53 ?_
              refine zj_iload_n X dX2_gain_54 rfl ?_
              refine zj_icmp_lt (tgt := 67) X dX2_gain_55 (by decide) (fun c_55 => ?_) (fun c_55 => ?_)
              · have hlt : fRc (mP n σ) i n < lim := by
                  have h8 : nI (fRc (mP n σ) i n) < nI lim := by rw [← hP, ← hCi i e_7]; exact c_55
                  rw [nI_ltI (by have := hV.2 i e_7; omega) (by omega)] at h8
                  exact h8
                refine zj_aload_n X dX2_gain_67 rfl ?_
                refine zj_iload_n X dX2_gain_68 rfl ?_
                refine zj_iload_n X dX2_gain_69 rfl ?_
                refine zj_iconst (v := 1) X dX2_gain_70 rfl ?_
                refine zj_callV (n := 3) (As := [_, _, _]) X (cm_pair l g hM i w e_7 hw true) (hM).o rfl rfl ⟨by decide, by decide, by decide +kernel⟩ (lw_V q1311 q1313 qs34 q50 q1314) ⟨by dsimp only; omega, by dsimp only; omega⟩ rfl rfl (Nat.le_of_ble_eq_true rfl) ⟨Nat.le_of_ble_eq_true rfl, Nat.le_of_ble_eq_true rfl⟩ dX2_gain_71 (fun v_71 h_71 p_71 => ?_)
                obtain ⟨e_v, hM3⟩ := p_71
                subst e_v
                refine zj_iconst (v := 1) X dX2_gain_74 rfl ?_
                exact zj_zret X hQ (⟨true, _, rfl, hM3, mEq_pair.tr (hEa.tr hE), h4, mCnt_on hn (mCnt_17 hCi) e_7 hw (by rw [mP_17, hP]; exact hP0), fun _ => (by rw [mP_set hn e_7 hw, mT_set, mP_17, mT_tr e_7, hP]; obtain ⟨q1, q2, q3, q4, q5, q6⟩ := fYes_now hV e_7 hw e_16 hP0 hTi hlt; exact ⟨q1, hS.tr q2, fun q hq => q3 q (hS q hq), q4, q5, q6⟩), fun z => (nomatch z)⟩) rfl (by decide) (Nat.le_of_ble_eq_true rfl) (Nat.le_of_ble_eq_true rfl) dX2_gain_75
              · obtain ⟨d', rfl⟩ : ∃ d', d = d' + 1 := ⟨d - 1, by have := fUn_pos hTi e_7; have := fUn_sub hS n; omega⟩
                refine zj_aload_n X dX2_gain_58 rfl ?_
                refine zj_iload_n X dX2_gain_59 rfl ?_
                refine zj_iload_n X dX2_gain_60 rfl ?_
                refine zj_callV (n := 2) (As := [_, _]) X (hY d' rfl hM lim hlim (mCnt_17 hCi) (by rw [mP_17, mFor_f (hEa.tr hE), hP]; exact hV) i e_7 (by rw [mT_tr e_7, fAdd, if_pos rfl]) (by rw [mT_tr e_7]; have := fUn_add hTi n e_7; have := fUn_sub hS n; omega)) hM.o rfl rfl ⟨by decide, by decide, by decide +kernel⟩ (lw_V q1307 q1309 qs33 q50 q1310) ⟨by dsimp only; omega, by dsimp only; omega⟩ rfl rfl (Nat.le_of_ble_eq_true rfl) ⟨Nat.le_of_ble_eq_true rfl, Nat.le_of_ble_eq_true rfl⟩ dX2_gain_61 (fun v_61 h_61 p_61 => ?_)
                obtain ⟨b, σ2, e_v, hM2, hE2, h42, hC2, hY2, hN2⟩ := p_61
                subst e_v
                refine zj_if_eq (tgt := 76) X dX2_gain_64 (by decide) (fun c_64 => ?_) (fun c_64 => ?_)
                · have e_64 := zb_0.mp c_64
                  refine zj_iinc X dX2_gain_76 rfl (zi_1 i) (by decide) ?_
                  refine zj_goto (tgt := 2) X dX2_gain_79 (by decide) ?_
                  have hy := hN2 e_64
                  rw [mP_17, mT_tr e_7, mFor_f (hEa.tr hE), hP] at hy
                  have hP2 := hy.1
                  have hfull : fRc (mP n σ) i n = lim := by
                    have h7 := hV.2 i e_7
                    have h8 : ¬ nI (fRc (mP n σ) i n) < nI lim := by rw [← hP, ← hCi i e_7]; exact c_55
                    rw [nI_ltI (by omega) (by omega)] at h8
                    omega
                  have hs2 : fSub (mT n σi) (mT n σ2) := fAdd_sub.tr hy.2.1
                  exact zj_lo (ih_2 (i + 1) _ σ2 hM2 (hE2.tr (hEa.tr hE)) (h42.trans h4) hP2 hC2 (hS.tr hs2) (hN.tr (fNew_p e_7 hfull (by rw [hP2] at hy; exact hy)) hs2) (fun q hq h5 h6 => by
                    rcases Nat.lt_or_ge q i with z | z
                    · exact hs2 q (hW q z h5 h6)
                    · have e_i : q = i := by omega
                      subst e_i
                      exact hy.2.1 q (by rw [fAdd, if_pos rfl])) (by omega) (by omega)) ⟨rfl, rfl, rfl, rfl, trivial⟩
                · have e_64 := zb_n.mp c_64
                  have hy := hY2 e_64
                  rw [mP_17, mT_tr e_7, mFor_f (hEa.tr hE), hP] at hy
                  refine zj_aload_n X dX2_gain_67 rfl ?_
                  refine zj_iload_n X dX2_gain_68 rfl ?_
                  refine zj_iload_n X dX2_gain_69 rfl ?_
                  refine zj_iconst (v := 1) X dX2_gain_70 rfl ?_
                  refine zj_callV (n := 3) (As := [_, _, _]) X (cm_pair l g hM2 i w e_7 hw true) (hM2).o rfl rfl ⟨by decide, by decide, by decide +kernel⟩ (lw_V q1311 q1313 qs34 q50 q1314) ⟨by dsimp only; omega, by dsimp only; omega⟩ rfl rfl (Nat.le_of_ble_eq_true rfl) ⟨Nat.le_of_ble_eq_true rfl, Nat.le_of_ble_eq_true rfl⟩ dX2_gain_71 (fun v_71 h_71 p_71 => ?_)
                  obtain ⟨e_v, hM3⟩ := p_71
                  subst e_v
                  refine zj_iconst (v := 1) X dX2_gain_74 rfl ?_
                  exact zj_zret X hQ (⟨true, _, rfl, hM3, mEq_pair.tr (hE2.tr (hEa.tr hE)), h42.trans h4, mCnt_on hn hC2 e_7 hw (hy.2.2.2.1 w hP0), fun _ => (by rw [mP_set hn e_7 hw, mT_set]; obtain ⟨q1, q2, q3, q4, q5, q6⟩ := fYes_by hV e_7 hw e_16 hP0 hTi hy; exact ⟨q1, hS.tr q2, fun q hq => q3 q (hS q hq), q4, q5, q6⟩), fun z => (nomatch z)⟩) rfl (by decide) (Nat.le_of_ble_eq_true rfl) (Nat.le_of_ble_eq_true rfl) dX2_gain_75
  exact zj_lo (L_2 (n + 1) 0 h σ hM mEq.rf rfl rfl hC fSub.rf fNew.rf (fun q hq => absurd hq (Nat.not_lt_zero q)) (Nat.zero_le _) (by omega)) ⟨rfl, rfl, rfl, rfl, trivial⟩

set_option maxHeartbeats 4000000 in
theorem cm_yield_s (l : Launch) (g : zz_G) (d : Nat) (hG : mG l g d) {h0 h : zz_H} {m : Nat} {ad : Nat → Nat} {n : Nat} {σ : Nat → Nat → Int32} (hM : MR h0 h m ad n σ) (lim : Nat) (hlim : lim ≤ 16) (hC : mCnt n σ) (hV : fVal n lim (mFor σ) (mP n σ)) (p : Nat) (hp : p < n) (hT : mT n σ p = true) (hd : fUn (mT n σ) n ≤ d) : zz_C l g yX2_canYield cX2_canYield 4 (some .boolean) (zz_rm (2 * d + 5) (46 * d + 123) (0) (0)) [.ref m, .int (nI p), .int (nI lim)] h (mGQ h0 m ad n σ (fYYes n lim (mFor σ) p (mP n σ) (mT n σ)) (fYNo n lim (mFor σ) p (mP n σ) (mT n σ))) := by
  refine zz_C.of (by decide) (Nat.le_of_ble_eq_true rfl) (fun pP eE sS mM aA bB tT cC X Q hQ => ?_)
  have hn := hM.le
  refine zj_iconst (v := 0) X dX2_canYield_0 rfl ?_
  refine zj_istore_n X dX2_canYield_1 (by decide) ?_
  have L_2 : ∀ k_2 : Nat, ∀ (i : Nat) (h : zz_H) (σi : Nat → Nat → Int32), MR h0 h m ad n σi → mEq σi σ → σi 14 0 = σ 14 0 → mP n σi = mP n σ → mCnt n σi → fSub (mT n σ) (mT n σi) → fNew n lim (mFor σ) (mP n σ) (mT n σ) (mT n σi) → (∀ v, v < i → mP n σ p v = true → fWR n (mFor σ) (fun x => mT n σi x = true) (mP n σ) v) → i ≤ n → n < i + k_2 → zz_J pP l eE (zz_rm (2 * d + 5) (46 * d + 123) (0) (0)) sS mM aA bB tT cC g 4 Q h 0 0 2 [(0, .ref m), (1, .int (nI p)), (2, .int (nI lim)), (3, .int (nI i))] [] := by
    intro k_2
    induction k_2 with
    | zero =>
      intro i h σi hM hE h4 hP hCi hS hN hW h1 h2
      omega
    | succ k_2 ih_2 =>
      intro i h σi hM hE h4 hP hCi hS hN hW h1 h2
      refine zj_iload_n X dX2_canYield_2 rfl ?_
      refine zj_aload_n X dX2_canYield_3 rfl ?_
      refine zj_get X in_X2 rfl 0 (by decide) q1141 (fun _ h => h) hM.o rfl (Or.inl (by decide)) dX2_canYield_4 ?_
      refine zj_icmp_ge (tgt := 47) X dX2_canYield_7 (by decide) (fun c_7 => ?_) (fun c_7 => ?_)
      · have e_7 := zi_ge h1 (by omega) c_7
        refine zj_iconst (v := 0) X dX2_canYield_47 rfl ?_
        exact zj_zret X hQ (⟨false, σi, rfl, hM, hE, h4, hCi, fun z => (nomatch z), fun _ => ⟨hP, hS, hN, fun v hv => hW v (by omega)⟩⟩) rfl (by decide) (Nat.le_of_ble_eq_true rfl) (Nat.le_of_ble_eq_true rfl) dX2_canYield_48
      · have e_7 := zi_lt h1 (by omega) c_7
        refine zj_aload_n X dX2_canYield_10 rfl ?_
        refine zj_get X in_X2 rfl 15 (by decide) q1156 (fun _ h => h) hM.o rfl (Or.inl (by decide)) dX2_canYield_11 ?_
        refine zj_iload_n X dX2_canYield_14 rfl ?_
        refine zj_iload_n X dX2_canYield_15 rfl ?_
        refine zj_callSp (n := 2) (As := [_, _]) X (cm_at l g _ _ _) ⟨by decide, by decide, by decide +kernel⟩ (lw_S q1264 q1265 q50 q1266) ⟨by dsimp only; omega, by dsimp only; omega⟩ rfl rfl (Nat.le_of_ble_eq_true rfl) ⟨Nat.le_of_ble_eq_true rfl, Nat.le_of_ble_eq_true rfl⟩ dX2_canYield_16 ?_
        refine zj_zald X (hM.arr 15 rfl) (rfl) (by show _ < 256; omega) (by omega) dX2_canYield_19 ?_
        refine zj_if_eq (tgt := 41) X dX2_canYield_20 (by decide) (fun c_20 => ?_) (fun c_20 => ?_)
        · refine zj_iinc X dX2_canYield_41 rfl (zi_1 i) (by decide) ?_
          refine zj_goto (tgt := 2) X dX2_canYield_44 (by decide) ?_
          exact zj_lo (ih_2 (i + 1) _ σi hM hE h4 hP hCi hS hN (fun v hv h5 => by
            rcases Nat.lt_or_ge v i with z | z
            · exact hW v z h5
            · have e_i : v = i := by omega
              subst e_i
              rw [← hP, mP_at hp e_7] at h5
              exact absurd c_20 (of_decide_eq_true h5)) (by omega) (by omega)) ⟨rfl, rfl, rfl, rfl, trivial⟩
        · have hPi : mP n σ p i = true := by rw [← hP, mP_at hp e_7]; exact decide_eq_true c_20
          refine zj_aload_n X dX2_canYield_23 rfl ?_
          refine zj_iload_n X dX2_canYield_24 rfl ?_
          refine zj_iload_n X dX2_canYield_25 rfl ?_
          refine zj_callV (n := 2) (As := [_, _]) X (hG hM lim hlim hCi (by rw [mFor_f hE, hP]; exact hV) i e_7 (by have := fUn_sub hS n; omega)) hM.o rfl rfl ⟨by decide, by decide, by decide +kernel⟩ (lw_V q1303 q1305 qs32 q50 q1306) ⟨by dsimp only; omega, by dsimp only; omega⟩ rfl rfl (Nat.le_of_ble_eq_true rfl) ⟨Nat.le_of_ble_eq_true rfl, Nat.le_of_ble_eq_true rfl⟩ dX2_canYield_26 (fun v_26 h_26 p_26 => ?_)
          obtain ⟨b, σ2, e_v, hM2, hE2, h42, hC2, hY2, hN2⟩ := p_26
          subst e_v
          refine zj_if_eq (tgt := 41) X dX2_canYield_29 (by decide) (fun c_29 => ?_) (fun c_29 => ?_)
          · have e_29 := zb_0.mp c_29
            refine zj_iinc X dX2_canYield_41 rfl (zi_1 i) (by decide) ?_
            refine zj_goto (tgt := 2) X dX2_canYield_44 (by decide) ?_
            have hy := hN2 e_29
            rw [mFor_f hE, hP] at hy
            obtain ⟨hP2, hs2, hn2, hw2⟩ := hy
            exact zj_lo (ih_2 (i + 1) _ σ2 hM2 (hE2.tr hE) (h42.trans h4) hP2 hC2 (hS.tr hs2) (hN.tr hn2 hs2) (fun v hv h5 => by
              rcases Nat.lt_or_ge v i with z | z
              · exact (hW v z h5).mono (fun x hx => hs2 x hx)
              · have e_i : v = i := by omega
                subst e_i
                exact hw2) (by omega) (by omega)) ⟨rfl, rfl, rfl, rfl, trivial⟩
          · have e_29 := zb_n.mp c_29
            have hy := hY2 e_29
            rw [mFor_f hE, hP] at hy
            refine zj_aload_n X dX2_canYield_32 rfl ?_
            refine zj_iload_n X dX2_canYield_33 rfl ?_
            refine zj_iload_n X dX2_canYield_34 rfl ?_
            refine zj_iconst (v := 0) X dX2_canYield_35 rfl ?_
            refine zj_callV (n := 3) (As := [_, _, _]) X (cm_pair l g hM2 p i hp e_7 false) hM2.o rfl rfl ⟨by decide, by decide, by decide +kernel⟩ (lw_V q1311 q1313 qs34 q50 q1314) ⟨by dsimp only; omega, by dsimp only; omega⟩ rfl rfl (Nat.le_of_ble_eq_true rfl) ⟨Nat.le_of_ble_eq_true rfl, Nat.le_of_ble_eq_true rfl⟩ dX2_canYield_36 (fun v_36 h_36 p_36 => ?_)
            obtain ⟨e_v, hM3⟩ := p_36
            subst e_v
            refine zj_iconst (v := 1) X dX2_canYield_39 rfl ?_
            exact zj_zret X hQ (⟨true, _, rfl, hM3, mEq_pair.tr (hE2.tr hE), h42.trans h4, mCnt_off hn hC2 hp e_7 (by rw [hy.2.2.1 p (hS p hT) i]; exact hPi), fun _ => (by rw [mP_set hn hp e_7, mT_set]; obtain ⟨q1, q2, q3, q4, q5, q6, q7⟩ := fYYes_by hp e_7 hPi (hS p hT) hy; exact ⟨q1, hS.tr q2, fun q hq => q3 q (hS q hq), q4, q5, q6, q7⟩), fun z => (nomatch z)⟩) rfl (by decide) (Nat.le_of_ble_eq_true rfl) (Nat.le_of_ble_eq_true rfl) dX2_canYield_40
  exact zj_lo (L_2 (n + 1) 0 h σ hM mEq.rf rfl rfl hC fSub.rf fNew.rf (fun v hv => absurd hv (Nat.not_lt_zero v)) (Nat.zero_le _) (by omega)) ⟨rfl, rfl, rfl, rfl, trivial⟩

theorem cm_gy (l : Launch) (g : zz_G) : ∀ d, mG l g d ∧ mY l g d := by
  intro d
  induction d with
  | zero =>
    have h : mG l g 0 := fun hM lim h1 h2 h3 w hw hd => cm_gain_s l g 0 (fun d' e => absurd e (Nat.succ_ne_zero d').symm) hM lim h1 h2 h3 w hw hd
    exact ⟨h, fun hM lim h1 h2 h3 p hp hT hd => cm_yield_s l g 0 h hM lim h1 h2 h3 p hp hT hd⟩
  | succ d ih =>
    have h : mG l g (d + 1) := fun hM lim h1 h2 h3 w hw hd => cm_gain_s l g (d + 1) (fun d' e => by cases e; exact ih.2) hM lim h1 h2 h3 w hw hd
    exact ⟨h, fun hM lim h1 h2 h3 p hp hT hd => cm_yield_s l g (d + 1) h hM lim h1 h2 h3 p hp hT hd⟩

