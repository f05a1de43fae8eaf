set_option maxRecDepth 100000
/-! THE CLASS: reviews, weights, lambdas -/
set_option maxHeartbeats 4000000 in
theorem cx_isLate (l : Launch) (g : zz_G) {h : zz_H} {x al n : Nat} {σ : Nat → Nat → Int32} {ω : Nat → Nat → Nat} {md : Int32} {ar cap : Nat} {f : Nat → Option Nat} (hP : PX g h x al n σ ω md ar cap f) {w p : Nat} (hw : w < n) (hz : ¬ σ 2 w = 0) (hk : rK σ w p = true) : zz_C l g yX6_isLate cX6_isLate 1 (some .boolean) (zz_rm 1 20 0 0) [.ref (ω 3 (16 * w + p))] h (fun r h' => r = some (.int (zb (decide (σ 12 0 < σ 11 (16 * w + p))))) ∧ h' = h) := by
  refine zz_C.of (by decide) (Nat.le_of_ble_eq_true rfl) (fun pP eE sS mM aA bB tT cC X Q hQ => ?_)
  obtain ⟨hp, hr⟩ := hP.r hw hz hk
  refine zj_aload_n X dX6_isLate_0 rfl ?_
  refine zj_get X in_X6 rfl 2 (by decide) q964 (fun _ h => h) (hr) rfl (Or.inl (by decide)) dX6_isLate_1 ?_
  refine zj_aload_n X dX6_isLate_4 rfl ?_
  refine zj_get X in_X6 rfl 4 (by decide) q966 (fun _ h => h) (hr) rfl (Or.inl (by decide)) dX6_isLate_5 ?_
  refine zj_getN X in_X1 rfl 1 (by decide) q124 (fun _ h => h) (hP.o) rfl (Or.inl (by decide)) dX6_isLate_8 ?_
  refine zj_icmp_le (tgt := 18) X dX6_isLate_11 (by decide) (fun c_11 => ?_) (fun c_11 => ?_)
  · refine zj_iconst (v := 0) X dX6_isLate_18 rfl ?_
    exact zj_zret X hQ (⟨zi_c (by rw [decide_eq_false (Int32.not_lt.mpr c_11)]; rfl), rfl⟩) rfl (by decide) (Nat.le_of_ble_eq_true rfl) (Nat.le_of_ble_eq_true rfl) dX6_isLate_19
  · refine zj_iconst (v := 1) X dX6_isLate_14 rfl ?_
    refine zj_goto (tgt := 19) X dX6_isLate_15 (by decide) ?_
    exact zj_zret X hQ (⟨zi_c (by rw [decide_eq_true (Int32.not_le.mp c_11)]; rfl), rfl⟩) rfl (by decide) (Nat.le_of_ble_eq_true rfl) (Nat.le_of_ble_eq_true rfl) dX6_isLate_19

/-- how much the review counts -/
def rC (σ : Nat → Nat → Int32) (w p : Nat) : Int32 := σ 3 p * (if σ 12 0 < σ 11 (16 * w + p) then 1 else 2) * (if σ 9 (16 * w + p) = 0 then 1 else 2)

set_option maxHeartbeats 4000000 in
theorem cx_counts (l : Launch) (g : zz_G) {h : zz_H} {x al n : Nat} {σ : Nat → Nat → Int32} {ω : Nat → Nat → Nat} {md : Int32} {ar cap : Nat} {f : Nat → Option Nat} (hP : PX g h x al n σ ω md ar cap f) {w p : Nat} (hw : w < n) (hz : ¬ σ 2 w = 0) (hk : rK σ w p = true) : zz_C l g yX6_counts cX6_counts 1 (some .int) (zz_rm 2 40 0 0) [.ref (ω 3 (16 * w + p))] h (fun r h' => r = some (.int (rC σ w p)) ∧ h' = h) := by
  refine zz_C.of (by decide) (Nat.le_of_ble_eq_true rfl) (fun pP eE sS mM aA bB tT cC X Q hQ => ?_)
  obtain ⟨hp, hr⟩ := hP.r hw hz hk
  refine zj_aload_n X dX6_counts_0 rfl ?_
  refine zj_get X in_X6 rfl 0 (by decide) q959 (fun _ h => h) (hr) rfl (Or.inl (by decide)) dX6_counts_1 ?_
  refine zj_getN X in_X3 rfl 2 (by decide) q508 (fun _ h => h) ((hP.p hp)) rfl (Or.inl (by decide)) dX6_counts_4 ?_
  refine zj_aload_n X dX6_counts_7 rfl ?_
  refine zj_callVp (n := 0) (As := []) X (cx_isLate l g hP hw hz hk) hr rfl rfl ⟨by decide, by decide, by decide +kernel⟩ (lw_V q428 q429 q430 q78 q431) ⟨Nat.le_of_ble_eq_true rfl, Nat.le_of_ble_eq_true rfl⟩ rfl rfl (Nat.le_of_ble_eq_true rfl) ⟨Nat.le_of_ble_eq_true rfl, Nat.le_of_ble_eq_true rfl⟩ dX6_counts_8 ?_
  refine zj_if_eq (tgt := 18) X dX6_counts_11 (by decide) (fun c_11 => ?_) (fun c_11 => ?_)
  · have e_11 : ¬ σ 12 0 < σ 11 (16 * w + p) := of_decide_eq_false (zb_0.mp c_11)
    refine zj_iconst (v := 2) X dX6_counts_18 rfl ?_
    refine zj_imul X dX6_counts_19 ?_
    refine zj_aload_n X dX6_counts_20 rfl ?_
    refine zj_get X in_X6 rfl 3 (by decide) q965 (fun _ h => h) (hr) rfl (Or.inl (by decide)) dX6_counts_21 ?_
    refine zj_if_eq (tgt := 31) X dX6_counts_24 (by decide) (fun c_24 => ?_) (fun c_24 => ?_)
    · refine zj_iconst (v := 1) X dX6_counts_31 rfl ?_
      refine zj_imul X dX6_counts_32 ?_
      exact zj_iret X hQ (⟨zi_c (by simp [rC, e_11, c_24]), rfl⟩) rfl (Nat.le_of_ble_eq_true rfl) (Nat.le_of_ble_eq_true rfl) dX6_counts_33
    · refine zj_iconst (v := 2) X dX6_counts_27 rfl ?_
      refine zj_goto (tgt := 32) X dX6_counts_28 (by decide) ?_
      refine zj_imul X dX6_counts_32 ?_
      exact zj_iret X hQ (⟨zi_c (by simp [rC, e_11, c_24]), rfl⟩) rfl (Nat.le_of_ble_eq_true rfl) (Nat.le_of_ble_eq_true rfl) dX6_counts_33
  · have e_11 : σ 12 0 < σ 11 (16 * w + p) := of_decide_eq_true (zb_n.mp c_11)
    refine zj_iconst (v := 1) X dX6_counts_14 rfl ?_
    refine zj_goto (tgt := 19) X dX6_counts_15 (by decide) ?_
    refine zj_imul X dX6_counts_19 ?_
    refine zj_aload_n X dX6_counts_20 rfl ?_
    refine zj_get X in_X6 rfl 3 (by decide) q965 (fun _ h => h) (hr) rfl (Or.inl (by decide)) dX6_counts_21 ?_
    refine zj_if_eq (tgt := 31) X dX6_counts_24 (by decide) (fun c_24 => ?_) (fun c_24 => ?_)
    · refine zj_iconst (v := 1) X dX6_counts_31 rfl ?_
      refine zj_imul X dX6_counts_32 ?_
      exact zj_iret X hQ (⟨zi_c (by simp [rC, e_11, c_24]), rfl⟩) rfl (Nat.le_of_ble_eq_true rfl) (Nat.le_of_ble_eq_true rfl) dX6_counts_33
    · refine zj_iconst (v := 2) X dX6_counts_27 rfl ?_
      refine zj_goto (tgt := 32) X dX6_counts_28 (by decide) ?_
      refine zj_imul X dX6_counts_32 ?_
      exact zj_iret X hQ (⟨zi_c (by simp [rC, e_11, c_24]), rfl⟩) rfl (Nat.le_of_ble_eq_true rfl) (Nat.le_of_ble_eq_true rfl) dX6_counts_33

set_option maxHeartbeats 4000000 in
theorem cx_compareTo (l : Launch) (g : zz_G) {h : zz_H} {x al n : Nat} {σ : Nat → Nat → Int32} {ω : Nat → Nat → Nat} {md : Int32} {ar cap : Nat} {f : Nat → Option Nat} (hP : PX g h x al n σ ω md ar cap f) {w p q : Nat} (hw : w < n) (hz : ¬ σ 2 w = 0) (hk : rK σ w p = true) (hk2 : rK σ w q = true) : zz_C l g yX6_compareTo cX6_compareTo 2 (some .int) (zz_rm 2 41 0 0) [.ref (ω 3 (16 * w + p)), .ref (ω 3 (16 * w + q))] h (fun r h' => r = some (.int (zcmp (σ 10 (16 * w + p)) (σ 10 (16 * w + q)))) ∧ h' = h) := by
  refine zz_C.of (by decide) (Nat.le_of_ble_eq_true rfl) (fun pP eE sS mM aA bB tT cC X Q hQ => ?_)
  obtain ⟨hp, hr⟩ := hP.r hw hz hk
  obtain ⟨hp2, hr2⟩ := hP.r hw hz hk2
  refine zj_aload_n X dX6_compareTo_0 rfl ?_
  refine zj_get X in_X6 rfl 1 (by decide) q961 (fun _ h => h) (hr) rfl (Or.inl (by decide)) dX6_compareTo_1 ?_
  refine zj_aload_n X dX6_compareTo_4 rfl ?_
  refine zj_get X in_X6 rfl 1 (by decide) q961 (fun _ h => h) (hr2) rfl (Or.inl (by decide)) dX6_compareTo_5 ?_
  refine zj_callSp (n := 2) (As := [_, _]) X (cj_compare l g h _ _) ⟨by decide, by decide, by decide +kernel⟩ (lw_S q421 q422 q72 q423) ⟨Nat.le_of_ble_eq_true rfl, Nat.le_of_ble_eq_true rfl⟩ rfl rfl (Nat.le_of_ble_eq_true rfl) ⟨Nat.le_of_ble_eq_true rfl, Nat.le_of_ble_eq_true rfl⟩ dX6_compareTo_8 ?_
  exact zj_iret X hQ (⟨rfl, rfl⟩) rfl (Nat.le_of_ble_eq_true rfl) (Nat.le_of_ble_eq_true rfl) dX6_compareTo_11

