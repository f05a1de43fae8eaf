set_option maxRecDepth 100000
/-! THE LIBRARY: TreeMap, reading and rotating -/
def tm0 : List Value := [.null, .null, .null, .null, .int 0, .int 0, .null, .null, .null]
theorem zcmp_l {x j : Nat} (hx : x < 65536) (hj : j < 65536) (h : ¬ 0 ≤ zcmp (nI x) (nI j)) : x < j := by
  unfold zcmp at h
  rcases Nat.lt_trichotomy x j with z | z | z
  · exact z
  · subst z
    rw [if_neg Int32.lt_irrefl, if_pos rfl] at h
    exact absurd (by decide) h
  · rw [if_neg (nI_nlt (Nat.le_of_lt z) (by omega)), if_neg (fun q => by have := (nI_eq (by omega) (by omega)).mp q; omega)] at h
    exact absurd (by decide) h
theorem zcmp_g {x j : Nat} (hx : x < 65536) (hj : j < 65536) (h : ¬ zcmp (nI x) (nI j) ≤ 0) : j < x := by
  unfold zcmp at h
  rcases Nat.lt_trichotomy x j with z | z | z
  · rw [if_pos (nI_lt z (by omega))] at h
    exact absurd (by decide) h
  · subst z
    rw [if_neg Int32.lt_irrefl, if_pos rfl] at h
    exact absurd (by decide) h
  · exact z
theorem zcmp_e {x j : Nat} (hx : x < 65536) (hj : j < 65536) (h : 0 ≤ zcmp (nI x) (nI j)) (h2 : zcmp (nI x) (nI j) ≤ 0) : x = j := by
  unfold zcmp at h h2
  rcases Nat.lt_trichotomy x j with z | z | z
  · rw [if_pos (nI_lt z (by omega))] at h
    exact absurd h (by decide)
  · exact z
  · rw [if_neg (nI_nlt (Nat.le_of_lt z) (by omega)), if_neg (fun q => by have := (nI_eq (by omega) (by omega)).mp q; omega)] at h2
    exact absurd h2 (by decide)

set_option maxHeartbeats 4000000 in
theorem cj_TreeMap (l : Launch) (g : zz_G) {h : zz_H} {t : Nat} (ha : h t = some (eO 8 tm0)) : zz_C l g yJ17_init cJ17_init 1 none (zz_rm 2 40 0 0) [.ref t] h (fun r h' => r = none ∧ h' = zz_up h t (eO 8 tm0)) := by
  refine zz_C.of (by decide) (Nat.le_of_ble_eq_true rfl) (fun pP eE sS mM aA bB tT cC X Q hQ => ?_)
  refine zj_aload_n X dJ17_init_0 rfl ?_
  refine zj_callI (n := 0) (As := []) X (cj_AbstractMap l g h _) ⟨by decide, by decide, by decide +kernel⟩ rfl q673 q67 q671 q672 ⟨Nat.le_of_ble_eq_true rfl, Nat.le_of_ble_eq_true rfl⟩ rfl rfl (Nat.le_of_ble_eq_true rfl) ⟨Nat.le_of_ble_eq_true rfl, Nat.le_of_ble_eq_true rfl⟩ dJ17_init_1 (fun v_1 h_1 p_1 => ?_)
  obtain ⟨rfl, rfl⟩ := p_1
  refine zj_aload_n X dJ17_init_4 rfl ?_
  refine zj_iconst (v := 0) X dJ17_init_5 rfl ?_
  refine zj_put X in_J17 tyJ17 tyJ17_ok nmJ17 rfl 4 (by decide) q677 (fun _ h => h) rfl (ha) rfl rfl (Nat.le_of_ble_eq_true rfl) (Or.inr (by decide)) dJ17_init_6 ?_
  refine zj_aload_n X dJ17_init_9 rfl ?_
  refine zj_iconst (v := 0) X dJ17_init_10 rfl ?_
  refine zj_put X in_J17 tyJ17 tyJ17_ok nmJ17 rfl 5 (by decide) q678 (fun _ h => h) rfl (zz_up_s) rfl rfl (Nat.le_of_ble_eq_true rfl) (Or.inr (by decide)) dJ17_init_11 ?_
  refine zj_aload_n X dJ17_init_14 rfl ?_
  refine zj_null X dJ17_init_15 ?_
  refine zj_putF X in_J17 tyJ17 tyJ17_ok nmJ17 rfl 2 (by decide) q675 (fun _ h => h) rfl rfl rfl (zz_up_s) rfl rfl (Nat.le_of_ble_eq_true rfl) (Or.inr (by decide)) dJ17_init_16 ?_
  exact zj_vret X hQ (⟨rfl, by rw [zz_up_u, zz_up_u]; rfl⟩) rfl (Nat.le_of_ble_eq_true rfl) (Nat.le_of_ble_eq_true rfl) dJ17_init_19

set_option maxHeartbeats 4000000 in
theorem cj_tsize (l : Launch) (g : zz_G) {h0 h : zz_H} {t : Nat} {K : Nat → Bool} {N V : Nat → Nat} {L R P : Nat → Option Nat} {C : Nat → Bool} {ro : Option Nat} {sz : Nat} {md : Int32} (hT : TM g h0 h t K N V L R P C ro sz md) : zz_C l g yJ17_size cJ17_size 1 (some .int) (zz_rm 1 20 0 0) [.ref t] h (fun r h' => r = some (.int (nI sz)) ∧ h' = h) := by
  refine zz_C.of (by decide) (Nat.le_of_ble_eq_true rfl) (fun pP eE sS mM aA bB tT cC X Q hQ => ?_)
  refine zj_aload_n X dJ17_size_0 rfl ?_
  refine zj_get X in_J17 rfl 4 (by decide) q677 (fun _ h => h) (hT.o) rfl (Or.inr (by decide)) dJ17_size_1 ?_
  exact zj_iret X hQ (⟨rfl, rfl⟩) rfl (Nat.le_of_ble_eq_true rfl) (Nat.le_of_ble_eq_true rfl) dJ17_size_4

set_option maxHeartbeats 4000000 in
theorem cj_getEntry (l : Launch) (g : zz_G) {h0 h : zz_H} {t : Nat} {K : Nat → Bool} {N V : Nat → Nat} {L R P : Nat → Option Nat} {C : Nat → Bool} {ro : Option Nat} {sz : Nat} {md : Int32} (hT : TM g h0 h t K N V L R P C ro sz md) {lo hi : Nat → Nat} (hW : tW K ro L R P lo hi) {x : Nat} (hx : x < 16) {o : Option Nat} (ho : (K x = true → o = some x) ∧ (K x = false → o = none)) : zz_C l g yJ17_getEntry cJ17_getEntry 5 (some (.object "java/util/TreeMap$Entry")) (zz_rm 5 121 0 0) [.ref t, .ref (gC g (128 + x))] h (fun r h' => r = some (rN N o) ∧ h' = h) := by
  refine zz_C.of (by decide) (Nat.le_of_ble_eq_true rfl) (fun pP eE sS mM aA bB tT cC X Q hQ => ?_)
  refine zj_aload_n X dJ17_getEntry_0 rfl ?_
  refine zj_get X in_J17 rfl 2 (by decide) q675 (fun _ h => h) (hT.o) rfl (Or.inr (by decide)) dJ17_getEntry_1 ?_
  refine zj_ifnull (r := none) (tgt := 13) X dJ17_getEntry_4 (by decide) (fun c_4 => ?_) (fun a c => by cases c)
  refine zj_aload_n X dJ17_getEntry_13 rfl ?_
  refine zj_callSp (n := 1) (As := [_]) X (cj_requireNonNull l g h _) ⟨by decide, by decide, by decide +kernel⟩ (lw_S q909 q910 q64 q911) ⟨Nat.le_of_ble_eq_true rfl, Nat.le_of_ble_eq_true rfl⟩ rfl rfl (Nat.le_of_ble_eq_true rfl) ⟨Nat.le_of_ble_eq_true rfl, Nat.le_of_ble_eq_true rfl⟩ dJ17_getEntry_14 ?_
  refine zj_pop X dJ17_getEntry_17 rfl ?_
  refine zj_aload_n X dJ17_getEntry_18 rfl ?_
  refine zj_castG X q912 q925 (X.rcI (by omega)) dJ17_getEntry_19 ?_
  refine zj_astore_n X dJ17_getEntry_22 (by decide) ?_
  refine zj_aload_n X dJ17_getEntry_23 rfl ?_
  refine zj_get X in_J17 rfl 3 (by decide) q676 (fun _ h => h) (hT.o) rfl (Or.inr (by decide)) dJ17_getEntry_24 ?_
  refine zj_astore_nq X dJ17_getEntry_27 (by decide) ?_
  have L_28 : ∀ k_28 : Nat, ∀ (tt : Option Nat), tSr K lo hi x tt → (∀ m, tt = some m → hi m - lo m < k_28) → 0 < k_28 → zz_J pP l eE (zz_rm 5 121 0 0) sS mM aA bB tT cC g 5 Q h 0 0 28 [(0, .ref t), (1, .ref (gC g (128 + x))), (2, .ref (gC g (128 + x))), (3, rN N tt)] [] := by
    intro k_28
    induction k_28 with
    | zero =>
      intro tt hs hwd hk0
      exact absurd hk0 (Nat.lt_irrefl 0)
    | succ k_28 ih_28 =>
      intro tt hs hwd hk0
      refine zj_aload_nq X dJ17_getEntry_28 rfl ?_
      refine zj_ifnull (tgt := 75) X dJ17_getEntry_29 (by decide) (fun c_29 => ?_) (fun a_29 c_29 => ?_)
      · have e_29 := om_n c_29
        subst e_29
        refine zj_null X dJ17_getEntry_75 ?_
        exact zj_aret (r := none) X hQ (⟨by rw [ho.2 (hs.1 rfl)]; rfl, rfl⟩) rfl (by first | exact Or.inl ⟨_, rfl⟩ | exact Or.inr ⟨_, rfl⟩) (by decide) (by decide) dJ17_getEntry_76
      · obtain ⟨j, rfl, rfl⟩ := om_s c_29
        have hKj := (hs.2 j rfl).1
        have hj := tW_16 hW hKj
        refine zj_aload_n X dJ17_getEntry_32 rfl ?_
        refine zj_aload_n X dJ17_getEntry_33 rfl ?_
        refine zj_get X in_J25 rfl 0 (by decide) q1001 (fun _ h => h) (hT.e hKj) rfl (Or.inl (by decide)) dJ17_getEntry_34 ?_
        refine zj_callFp (n := 1) (As := [_]) (ci := 10) (q := (RJ21, TJ21, 1)) (x2 := ⟨"java/lang/Comparable", "compareTo", "(Ljava/lang/Object;)I"⟩) X (cj_compareTo l g h (j := x) (k := j) (by omega) (by omega)) rfl (X.rcI (by omega)) ⟨⟨by simp [zz_fx], q929, q927, q925⟩, by decide, by decide, by decide +kernel⟩ (lw_F q914 q926 q928 q72 q930) ⟨Nat.le_of_ble_eq_true rfl, Nat.le_of_ble_eq_true rfl⟩ rfl rfl (Nat.le_of_ble_eq_true rfl) ⟨Nat.le_of_ble_eq_true rfl, Nat.le_of_ble_eq_true rfl⟩ dJ17_getEntry_37 ?_
        refine zj_istore X dJ17_getEntry_42 (by decide) ?_
        refine zj_iload X dJ17_getEntry_44 rfl ?_
        refine zj_if_ge (tgt := 57) X dJ17_getEntry_46 (by decide) (fun c_46 => ?_) (fun c_46 => ?_)
        · have e_46 := c_46
          refine zj_iload X dJ17_getEntry_57 rfl ?_
          refine zj_if_le (tgt := 70) X dJ17_getEntry_59 (by decide) (fun c_59 => ?_) (fun c_59 => ?_)
          · have e_59 := zcmp_e (by omega) (by omega) c_46 c_59
            refine zj_aload_n X dJ17_getEntry_70 rfl ?_
            exact zj_aret (r := some _) X hQ (⟨by subst e_59; rw [ho.1 hKj]; rfl, rfl⟩) rfl (by first | exact Or.inl ⟨_, rfl⟩ | exact Or.inr ⟨_, rfl⟩) (by decide) (by decide) dJ17_getEntry_71
          · have e_59 := zcmp_g (by omega) (by omega) c_59
            refine zj_aload_n X dJ17_getEntry_62 rfl ?_
            refine zj_get X in_J25 rfl 3 (by decide) q1006 (fun _ h => h) (hT.e hKj) rfl (Or.inl (by decide)) dJ17_getEntry_63 ?_
            refine zj_astore_nq X dJ17_getEntry_66 (by decide) ?_
            refine zj_goto (tgt := 72) X dJ17_getEntry_67 (by decide) ?_
            refine zj_goto (tgt := 28) X dJ17_getEntry_72 (by decide) ?_
            exact zj_lo (ih_28 (R j) (tSr_R hW hs e_59) (fun m hm => by have := tW_wR hW hKj hm; have := hwd j rfl; omega) (by have := hwd j rfl; have := hW.1 j hKj; omega)) ⟨rfl, rfl, rfl, rfl, trivial⟩
        · have e_46 := zcmp_l (by omega) (by omega) c_46
          refine zj_aload_n X dJ17_getEntry_49 rfl ?_
          refine zj_get X in_J25 rfl 2 (by decide) q1005 (fun _ h => h) (hT.e hKj) rfl (Or.inl (by decide)) dJ17_getEntry_50 ?_
          refine zj_astore_nq X dJ17_getEntry_53 (by decide) ?_
          refine zj_goto (tgt := 72) X dJ17_getEntry_54 (by decide) ?_
          refine zj_goto (tgt := 28) X dJ17_getEntry_72 (by decide) ?_
          exact zj_lo (ih_28 (L j) (tSr_L hW hs e_46) (fun m hm => by have := tW_wL hW hKj hm; have := hwd j rfl; omega) (by have := hwd j rfl; have := hW.1 j hKj; omega)) ⟨rfl, rfl, rfl, rfl, trivial⟩
  exact zj_lo (L_28 17 ro (tSr_0 hW hx) (fun m hm => by have := (hW.1 m ((tSr_0 hW hx).2 m hm).1); omega) (by omega)) ⟨rfl, rfl, rfl, rfl, trivial⟩

set_option maxHeartbeats 4000000 in
theorem cj_tget (l : Launch) (g : zz_G) {h0 h : zz_H} {t : Nat} {K : Nat → Bool} {N V : Nat → Nat} {L R P : Nat → Option Nat} {C : Nat → Bool} {ro : Option Nat} {sz : Nat} {md : Int32} (hT : TM g h0 h t K N V L R P C ro sz md) {lo hi : Nat → Nat} (hW : tW K ro L R P lo hi) {x : Nat} (hx : x < 16) {o : Option Nat} (ho : (K x = true → o = some x) ∧ (K x = false → o = none)) : zz_C l g yJ17_get cJ17_get 3 (some (.object "java/lang/Object")) (zz_rm 6 145 0 0) [.ref t, .ref (gC g (128 + x))] h (fun r h' => r = some (rN V o) ∧ h' = h) := by
  refine zz_C.of (by decide) (Nat.le_of_ble_eq_true rfl) (fun pP eE sS mM aA bB tT cC X Q hQ => ?_)
  refine zj_aload_n X dJ17_get_0 rfl ?_
  refine zj_aload_n X dJ17_get_1 rfl ?_
  refine zj_callVp (n := 1) (As := [_]) X (cj_getEntry l g hT hW hx ho) hT.o rfl rfl ⟨by decide, by decide, by decide +kernel⟩ (lw_V q897 q898 q899 q68 q900) ⟨Nat.le_of_ble_eq_true rfl, Nat.le_of_ble_eq_true rfl⟩ rfl rfl (Nat.le_of_ble_eq_true rfl) ⟨Nat.le_of_ble_eq_true rfl, Nat.le_of_ble_eq_true rfl⟩ dJ17_get_2 ?_
  refine zj_astore_nq X dJ17_get_5 (by decide) ?_
  refine zj_aload_nq X dJ17_get_6 rfl ?_
  refine zj_ifnonnull (tgt := 14) X dJ17_get_7 (by decide) (fun a_7 c_7 => ?_) (fun c_7 => ?_)
  · obtain ⟨j, rfl, rfl⟩ := om_s c_7
    have hKx : K j = true := by
      cases hz : K x with
      | false => cases ho.2 hz
      | true => cases ho.1 hz; exact hz
    refine zj_aload_n X dJ17_get_14 rfl ?_
    refine zj_get X in_J25 rfl 1 (by decide) q1004 (fun _ h => h) (hT.e hKx) rfl (Or.inl (by decide)) dJ17_get_15 ?_
    exact zj_aret (r := some _) X hQ (⟨rfl, rfl⟩) rfl (by first | exact Or.inl ⟨_, rfl⟩ | exact Or.inr ⟨_, rfl⟩) (by decide) (by decide) dJ17_get_18
  · have e_7 := om_n c_7
    subst e_7
    refine zj_null X dJ17_get_10 ?_
    refine zj_goto (tgt := 18) X dJ17_get_11 (by decide) ?_
    exact zj_aret (r := none) X hQ (⟨rfl, rfl⟩) rfl (by first | exact Or.inl ⟨_, rfl⟩ | exact Or.inr ⟨_, rfl⟩) (by decide) (by decide) dJ17_get_18

set_option maxHeartbeats 4000000 in
theorem cj_containsKey (l : Launch) (g : zz_G) {h0 h : zz_H} {t : Nat} {K : Nat → Bool} {N V : Nat → Nat} {L R P : Nat → Option Nat} {C : Nat → Bool} {ro : Option Nat} {sz : Nat} {md : Int32} (hT : TM g h0 h t K N V L R P C ro sz md) {lo hi : Nat → Nat} (hW : tW K ro L R P lo hi) {x : Nat} (hx : x < 16) : zz_C l g yJ17_containsKey cJ17_containsKey 2 (some .boolean) (zz_rm 6 145 0 0) [.ref t, .ref (gC g (128 + x))] h (fun r h' => r = some (.int (zb (K x))) ∧ h' = h) := by
  refine zz_C.of (by decide) (Nat.le_of_ble_eq_true rfl) (fun pP eE sS mM aA bB tT cC X Q hQ => ?_)
  obtain ⟨o, ho⟩ : ∃ o : Option Nat, (K x = true → o = some x) ∧ (K x = false → o = none) := ⟨if K x = true then some x else none, fun h => if_pos h, fun h => if_neg (by simp [h])⟩
  refine zj_aload_n X dJ17_containsKey_0 rfl ?_
  refine zj_aload_n X dJ17_containsKey_1 rfl ?_
  refine zj_callVp (n := 1) (As := [_]) X (cj_getEntry l g hT hW hx ho) hT.o rfl rfl ⟨by decide, by decide, by decide +kernel⟩ (lw_V q897 q898 q899 q68 q900) ⟨Nat.le_of_ble_eq_true rfl, Nat.le_of_ble_eq_true rfl⟩ rfl rfl (Nat.le_of_ble_eq_true rfl) ⟨Nat.le_of_ble_eq_true rfl, Nat.le_of_ble_eq_true rfl⟩ dJ17_containsKey_2 ?_
  refine zj_ifnull (tgt := 12) X dJ17_containsKey_5 (by decide) (fun c_5 => ?_) (fun a_5 c_5 => ?_)
  · have e_5 := om_n c_5
    have hKx : K x = false := by
      cases hz : K x with
      | false => rfl
      | true => rw [ho.1 hz] at e_5; cases e_5
    refine zj_iconst (v := 0) X dJ17_containsKey_12 rfl ?_
    exact zj_zret X hQ (⟨by rw [hKx]; rfl, rfl⟩) rfl (by decide) (Nat.le_of_ble_eq_true rfl) (Nat.le_of_ble_eq_true rfl) dJ17_containsKey_13
  · obtain ⟨j, e_5, -⟩ := om_s c_5
    have hKx : K x = true := by
      cases hz : K x with
      | true => rfl
      | false => rw [ho.2 hz] at e_5; cases e_5
    refine zj_iconst (v := 1) X dJ17_containsKey_8 rfl ?_
    refine zj_goto (tgt := 13) X dJ17_containsKey_9 (by decide) ?_
    exact zj_zret X hQ (⟨by rw [hKx]; rfl, rfl⟩) rfl (by decide) (Nat.le_of_ble_eq_true rfl) (Nat.le_of_ble_eq_true rfl) dJ17_containsKey_13

set_option maxHeartbeats 4000000 in
theorem cj_tcompare (l : Launch) (g : zz_G) {h0 h : zz_H} {t : Nat} {K : Nat → Bool} {N V : Nat → Nat} {L R P : Nat → Option Nat} {C : Nat → Bool} {ro : Option Nat} {sz : Nat} {md : Int32} (hT : TM g h0 h t K N V L R P C ro sz md) {x : Nat} (hx : x < 16) : zz_C l g yJ17_compare cJ17_compare 3 (some .int) (zz_rm 5 121 0 0) [.ref t, .ref (gC g (128 + x)), .ref (gC g (128 + x))] h (fun r h' => r = some (.int (zcmp (nI x) (nI x))) ∧ h' = h) := by
  refine zz_C.of (by decide) (Nat.le_of_ble_eq_true rfl) (fun pP eE sS mM aA bB tT cC X Q hQ => ?_)
  refine zj_aload_n X dJ17_compare_0 rfl ?_
  refine zj_get X in_J17 rfl 2 (by decide) q675 (fun _ h => h) (hT.o) rfl (Or.inr (by decide)) dJ17_compare_1 ?_
  refine zj_ifnonnull (r := none) (tgt := 20) X dJ17_compare_4 (by decide) (fun a c => by cases c) (fun c_4 => ?_)
  refine zj_aload_n X dJ17_compare_7 rfl ?_
  refine zj_castG X q912 q925 (X.rcI (by omega)) dJ17_compare_8 ?_
  refine zj_aload_n X dJ17_compare_11 rfl ?_
  refine zj_callFp (n := 1) (As := [_]) (ci := 10) (q := (RJ21, TJ21, 1)) (x2 := ⟨"java/lang/Comparable", "compareTo", "(Ljava/lang/Object;)I"⟩) X (cj_compareTo l g h (j := x) (k := x) (by omega) (by omega)) rfl (X.rcI (by omega)) ⟨⟨by simp [zz_fx], q929, q927, q925⟩, by decide, by decide, by decide +kernel⟩ (lw_F q914 q926 q928 q72 q930) ⟨Nat.le_of_ble_eq_true rfl, Nat.le_of_ble_eq_true rfl⟩ rfl rfl (Nat.le_of_ble_eq_true rfl) ⟨Nat.le_of_ble_eq_true rfl, Nat.le_of_ble_eq_true rfl⟩ dJ17_compare_12 ?_
  refine zj_goto (tgt := 31) X dJ17_compare_17 (by decide) ?_
  exact zj_iret X hQ (⟨rfl, rfl⟩) rfl (Nat.le_of_ble_eq_true rfl) (Nat.le_of_ble_eq_true rfl) dJ17_compare_31

set_option maxHeartbeats 4000000 in
theorem cj_parentOf (l : Launch) (g : zz_G) {h0 h : zz_H} {t : Nat} {K : Nat → Bool} {N V : Nat → Nat} {L R P : Nat → Option Nat} {C : Nat → Bool} {ro : Option Nat} {sz : Nat} {md : Int32} (hT : TM g h0 h t K N V L R P C ro sz md) {o o2 : Option Nat} (ho : ∀ j, o = some j → K j = true) (h2 : o.bind P = o2) : zz_C l g yJ17_parentOf cJ17_parentOf 1 (some (.object "java/util/TreeMap$Entry")) (zz_rm 1 20 0 0) [rN N o] h (fun r h' => r = some (rN N o2) ∧ h' = h) := by
  refine zz_C.of (by decide) (by cases o <;> exact Nat.le_of_ble_eq_true rfl) (fun pP eE sS mM aA bB tT cC X Q hQ => ?_)
  refine zj_aload_nq X dJ17_parentOf_0 rfl ?_
  refine zj_ifnonnull (tgt := 8) X dJ17_parentOf_1 (by decide) (fun a_1 c_1 => ?_) (fun c_1 => ?_)
  · obtain ⟨j, rfl, rfl⟩ := om_s c_1
    refine zj_aload_n X dJ17_parentOf_8 rfl ?_
    refine zj_get X in_J25 rfl 4 (by decide) q1008 (fun _ h => h) (hT.e (ho j rfl)) rfl (Or.inl (by decide)) dJ17_parentOf_9 ?_
    exact zj_aret  X hQ (⟨by rw [← h2]; rfl, rfl⟩) rfl (by first | exact Or.inl ⟨_, rfl⟩ | exact Or.inr ⟨_, rfl⟩) (by decide) (by decide) dJ17_parentOf_12
  · have e_1 := om_n c_1
    subst e_1
    refine zj_null X dJ17_parentOf_4 ?_
    refine zj_goto (tgt := 12) X dJ17_parentOf_5 (by decide) ?_
    exact zj_aret (r := none) X hQ (⟨by rw [← h2]; rfl, rfl⟩) rfl (by first | exact Or.inl ⟨_, rfl⟩ | exact Or.inr ⟨_, rfl⟩) (by decide) (by decide) dJ17_parentOf_12

set_option maxHeartbeats 4000000 in
theorem cj_leftOf (l : Launch) (g : zz_G) {h0 h : zz_H} {t : Nat} {K : Nat → Bool} {N V : Nat → Nat} {L R P : Nat → Option Nat} {C : Nat → Bool} {ro : Option Nat} {sz : Nat} {md : Int32} (hT : TM g h0 h t K N V L R P C ro sz md) {o o2 : Option Nat} (ho : ∀ j, o = some j → K j = true) (h2 : o.bind L = o2) : zz_C l g yJ17_leftOf cJ17_leftOf 1 (some (.object "java/util/TreeMap$Entry")) (zz_rm 1 20 0 0) [rN N o] h (fun r h' => r = some (rN N o2) ∧ h' = h) := by
  refine zz_C.of (by decide) (by cases o <;> exact Nat.le_of_ble_eq_true rfl) (fun pP eE sS mM aA bB tT cC X Q hQ => ?_)
  refine zj_aload_nq X dJ17_leftOf_0 rfl ?_
  refine zj_ifnonnull (tgt := 8) X dJ17_leftOf_1 (by decide) (fun a_1 c_1 => ?_) (fun c_1 => ?_)
  · obtain ⟨j, rfl, rfl⟩ := om_s c_1
    refine zj_aload_n X dJ17_leftOf_8 rfl ?_
    refine zj_get X in_J25 rfl 2 (by decide) q1005 (fun _ h => h) (hT.e (ho j rfl)) rfl (Or.inl (by decide)) dJ17_leftOf_9 ?_
    exact zj_aret  X hQ (⟨by rw [← h2]; rfl, rfl⟩) rfl (by first | exact Or.inl ⟨_, rfl⟩ | exact Or.inr ⟨_, rfl⟩) (by decide) (by decide) dJ17_leftOf_12
  · have e_1 := om_n c_1
    subst e_1
    refine zj_null X dJ17_leftOf_4 ?_
    refine zj_goto (tgt := 12) X dJ17_leftOf_5 (by decide) ?_
    exact zj_aret (r := none) X hQ (⟨by rw [← h2]; rfl, rfl⟩) rfl (by first | exact Or.inl ⟨_, rfl⟩ | exact Or.inr ⟨_, rfl⟩) (by decide) (by decide) dJ17_leftOf_12

set_option maxHeartbeats 4000000 in
theorem cj_rightOf (l : Launch) (g : zz_G) {h0 h : zz_H} {t : Nat} {K : Nat → Bool} {N V : Nat → Nat} {L R P : Nat → Option Nat} {C : Nat → Bool} {ro : Option Nat} {sz : Nat} {md : Int32} (hT : TM g h0 h t K N V L R P C ro sz md) {o o2 : Option Nat} (ho : ∀ j, o = some j → K j = true) (h2 : o.bind R = o2) : zz_C l g yJ17_rightOf cJ17_rightOf 1 (some (.object "java/util/TreeMap$Entry")) (zz_rm 1 20 0 0) [rN N o] h (fun r h' => r = some (rN N o2) ∧ h' = h) := by
  refine zz_C.of (by decide) (by cases o <;> exact Nat.le_of_ble_eq_true rfl) (fun pP eE sS mM aA bB tT cC X Q hQ => ?_)
  refine zj_aload_nq X dJ17_rightOf_0 rfl ?_
  refine zj_ifnonnull (tgt := 8) X dJ17_rightOf_1 (by decide) (fun a_1 c_1 => ?_) (fun c_1 => ?_)
  · obtain ⟨j, rfl, rfl⟩ := om_s c_1
    refine zj_aload_n X dJ17_rightOf_8 rfl ?_
    refine zj_get X in_J25 rfl 3 (by decide) q1006 (fun _ h => h) (hT.e (ho j rfl)) rfl (Or.inl (by decide)) dJ17_rightOf_9 ?_
    exact zj_aret  X hQ (⟨by rw [← h2]; rfl, rfl⟩) rfl (by first | exact Or.inl ⟨_, rfl⟩ | exact Or.inr ⟨_, rfl⟩) (by decide) (by decide) dJ17_rightOf_12
  · have e_1 := om_n c_1
    subst e_1
    refine zj_null X dJ17_rightOf_4 ?_
    refine zj_goto (tgt := 12) X dJ17_rightOf_5 (by decide) ?_
    exact zj_aret (r := none) X hQ (⟨by rw [← h2]; rfl, rfl⟩) rfl (by first | exact Or.inl ⟨_, rfl⟩ | exact Or.inr ⟨_, rfl⟩) (by decide) (by decide) dJ17_rightOf_12

set_option maxHeartbeats 4000000 in
theorem cj_colorOf (l : Launch) (g : zz_G) {h0 h : zz_H} {t : Nat} {K : Nat → Bool} {N V : Nat → Nat} {L R P : Nat → Option Nat} {C : Nat → Bool} {ro : Option Nat} {sz : Nat} {md : Int32} (hT : TM g h0 h t K N V L R P C ro sz md) {o : Option Nat} {b : Bool} (ho : ∀ j, o = some j → K j = true) (h1 : o = none → b = true) (h2 : ∀ j, o = some j → b = C j) : zz_C l g yJ17_colorOf cJ17_colorOf 1 (some .boolean) (zz_rm 1 20 0 0) [rN N o] h (fun r h' => r = some (.int (zb b)) ∧ h' = h) := by
  refine zz_C.of (by decide) (by cases o <;> exact Nat.le_of_ble_eq_true rfl) (fun pP eE sS mM aA bB tT cC X Q hQ => ?_)
  refine zj_aload_nq X dJ17_colorOf_0 rfl ?_
  refine zj_ifnonnull (tgt := 8) X dJ17_colorOf_1 (by decide) (fun a_1 c_1 => ?_) (fun c_1 => ?_)
  · obtain ⟨j, rfl, rfl⟩ := om_s c_1
    refine zj_aload_n X dJ17_colorOf_8 rfl ?_
    refine zj_get X in_J25 rfl 5 (by decide) q1010 (fun _ h => h) (hT.e (ho j rfl)) rfl (Or.inl (by decide)) dJ17_colorOf_9 ?_
    exact zj_zret X hQ (⟨by rw [h2 j rfl], rfl⟩) rfl (by first | exact zb_nar _ | decide) (Nat.le_of_ble_eq_true rfl) (Nat.le_of_ble_eq_true rfl) dJ17_colorOf_12
  · have e_1 := om_n c_1
    subst e_1
    refine zj_iconst (v := 1) X dJ17_colorOf_4 rfl ?_
    refine zj_goto (tgt := 12) X dJ17_colorOf_5 (by decide) ?_
    exact zj_zret X hQ (⟨by rw [h1 rfl]; rfl, rfl⟩) rfl (by first | exact zb_nar _ | decide) (Nat.le_of_ble_eq_true rfl) (Nat.le_of_ble_eq_true rfl) dJ17_colorOf_12

set_option maxHeartbeats 4000000 in
theorem cj_setColor (l : Launch) (g : zz_G) {h0 h : zz_H} {t : Nat} {K : Nat → Bool} {N V : Nat → Nat} {L R P : Nat → Option Nat} {C : Nat → Bool} {ro : Option Nat} {sz : Nat} {md : Int32} (hT : TM g h0 h t K N V L R P C ro sz md) {o : Option Nat} (b : Bool) (ho : ∀ j, o = some j → K j = true) : zz_C l g yJ17_setColor cJ17_setColor 2 none (zz_rm 1 20 0 0) [rN N o, .int (zb b)] h (fun r h' => r = none ∧ ∃ C', TM g h0 h' t K N V L R P C' ro sz md ∧ (o = none → C' = C) ∧ ∀ j, o = some j → C' = fu C j b) := by
  refine zz_C.of (by decide) (by cases o <;> exact Nat.le_of_ble_eq_true rfl) (fun pP eE sS mM aA bB tT cC X Q hQ => ?_)
  refine zj_aload_nq X dJ17_setColor_0 rfl ?_
  refine zj_ifnull (tgt := 9) X dJ17_setColor_1 (by decide) (fun c_1 => ?_) (fun a_1 c_1 => ?_)
  · have e_1 := om_n c_1
    subst e_1
    exact zj_vret X hQ (⟨rfl, C, hT, fun _ => rfl, fun j hj => (by cases hj)⟩) rfl (Nat.le_of_ble_eq_true rfl) (Nat.le_of_ble_eq_true rfl) dJ17_setColor_9
  · obtain ⟨j, rfl, rfl⟩ := om_s c_1
    refine zj_aload_n X dJ17_setColor_4 rfl ?_
    refine zj_iload_n X dJ17_setColor_5 rfl ?_
    refine tm_pC X hT (ho j rfl) (b) q1010 (fun _ h => h) dJ17_setColor_6 (fun h9 hT => ?_)
    exact zj_vret X hQ (⟨rfl, _, hT, fun z => (by cases z), fun j hj => by cases hj; rfl⟩) rfl (Nat.le_of_ble_eq_true rfl) (Nat.le_of_ble_eq_true rfl) dJ17_setColor_9

set_option maxHeartbeats 4000000 in
theorem cj_rotateLeft (l : Launch) (g : zz_G) {h0 h : zz_H} {t : Nat} {K : Nat → Bool} {N V : Nat → Nat} {L R P : Nat → Option Nat} {C : Nat → Bool} {ro : Option Nat} {sz : Nat} {md : Int32} (hT : TM g h0 h t K N V L R P C ro sz md) {lo hi : Nat → Nat} (hW : tW K ro L R P lo hi) {p r : Nat} (hp : K p = true) (hr : R p = some r) : zz_C l g yJ17_rotateLeft cJ17_rotateLeft 3 none (zz_rm 1 20 0 0) [.ref t, .ref (N p)] h (fun v h' => v = none ∧ TM g h0 h' t K N V (rl1 L P p r) (rl2 L R P p r) (rl3 L P p r) C (rlo P ro p r) sz md) := by
  refine zz_C.of (by decide) (Nat.le_of_ble_eq_true rfl) (fun pP eE sS mM aA bB tT cC X Q hQ => ?_)
  obtain ⟨a, b, c, d, e, f, gg, hh, ii⟩ := id hW
  have hKr : K r = true := by grind
  have hpr : p ≠ r := by grind
  have hb0 : ¬ L r = some p := by grind
  have hb1 : ¬ L r = some r := by grind
  have hb : ∀ q, L r = some q → K q = true := by grind
  have hg : ∀ q, P p = some q → K q = true ∧ q ≠ p ∧ q ≠ r ∧ ¬ L r = some q := by grind
  clear a b c d e f gg hh ii
  refine zj_aload_n X dJ17_rotateLeft_0 rfl ?_
  refine zj_ifnull (r := some _) (tgt := 95) X dJ17_rotateLeft_1 (by decide) (fun c => by cases c) (fun a_1 c_1 => ?_)
  refine zj_aload_n X dJ17_rotateLeft_4 rfl ?_
  refine zj_get X in_J25 rfl 3 (by decide) q1006 (fun _ h => h) (hT.e hp) rfl (Or.inl (by decide)) dJ17_rotateLeft_5 ?_
  rw [hr]
  refine zj_astore_n X dJ17_rotateLeft_8 (by decide) ?_
  refine zj_aload_n X dJ17_rotateLeft_9 rfl ?_
  refine zj_aload_n X dJ17_rotateLeft_10 rfl ?_
  refine zj_get X in_J25 rfl 2 (by decide) q1005 (fun _ h => h) (hT.e hKr) rfl (Or.inl (by decide)) dJ17_rotateLeft_11 ?_
  refine tm_pR X hT hp (L r) q1006 (fun _ h => h) dJ17_rotateLeft_14 (fun h9 hT => ?_)
  refine zj_aload_n X dJ17_rotateLeft_17 rfl ?_
  refine zj_get X in_J25 rfl 2 (by decide) q1005 (fun _ h => h) (hT.e hKr) rfl (Or.inl (by decide)) dJ17_rotateLeft_18 ?_
  refine zj_ifnull (tgt := 32) X dJ17_rotateLeft_21 (by decide) (fun c_21 => ?_) (fun a_21 c_21 => ?_)
  · have e_21 := om_n c_21
    obtain ⟨P1, hP1, hT⟩ : ∃ P1 : Nat → Option Nat, (∀ q, P1 q = if L r = some q then some p else P q) ∧ TM g h0 h9 t K N V L (fu R p (L r)) P1 C ro sz md := ⟨_, by intro q; grind [fu], hT⟩
    refine zj_aload_n X dJ17_rotateLeft_32 rfl ?_
    refine zj_aload_n X dJ17_rotateLeft_33 rfl ?_
    refine zj_get X in_J25 rfl 4 (by decide) q1008 (fun _ h => h) (hT.e hp) rfl (Or.inl (by decide)) dJ17_rotateLeft_34 ?_
    rw [hP1, if_neg hb0]
    refine tm_pP X hT hKr (P p) q1008 (fun _ h => h) dJ17_rotateLeft_37 (fun h9 hT => ?_)
    refine zj_aload_n X dJ17_rotateLeft_40 rfl ?_
    refine zj_get X in_J25 rfl 4 (by decide) q1008 (fun _ h => h) (hT.e hp) rfl (Or.inl (by decide)) dJ17_rotateLeft_41 ?_
    rw [fu_n hpr, hP1, if_neg hb0]
    refine zj_ifnonnull (tgt := 55) X dJ17_rotateLeft_44 (by decide) (fun a_44 c_44 => ?_) (fun c_44 => ?_)
    · obtain ⟨q, e_44, rfl⟩ := om_s c_44
      obtain ⟨hKq, hq1, hq2, hq3⟩ := hg q e_44
      refine zj_aload_n X dJ17_rotateLeft_55 rfl ?_
      refine zj_get X in_J25 rfl 4 (by decide) q1008 (fun _ h => h) (hT.e hp) rfl (Or.inl (by decide)) dJ17_rotateLeft_56 ?_
      rw [fu_n hpr, hP1, if_neg hb0, e_44]
      refine zj_get X in_J25 rfl 2 (by decide) q1005 (fun _ h => h) (hT.e hKq) rfl (Or.inl (by decide)) dJ17_rotateLeft_59 ?_
      refine zj_aload_n X dJ17_rotateLeft_62 rfl ?_
      refine zj_acmp_ne (ry := some _) (tgt := 77) X dJ17_rotateLeft_63 (by decide) (fun c_63 => ?_) (fun c_63 => ?_)
      · have e_63 : ¬ L q = some p := fun z => c_63 (by rw [z]; rfl)
        refine zj_aload_n X dJ17_rotateLeft_77 rfl ?_
        refine zj_get X in_J25 rfl 4 (by decide) q1008 (fun _ h => h) (hT.e hp) rfl (Or.inl (by decide)) dJ17_rotateLeft_78 ?_
        rw [fu_n hpr, hP1, if_neg hb0, e_44]
        refine zj_aload_n X dJ17_rotateLeft_81 rfl ?_
        refine tm_pR X hT hKq (some r) q1006 (fun _ h => h) dJ17_rotateLeft_82 (fun h9 hT => ?_)
        obtain ⟨L2, R2, ro2, eL, eR, eo, hT⟩ : ∃ (L2 R2 : Nat → Option Nat) (ro2 : Option Nat), fu L2 r (some p) = rl1 L P p r ∧ R2 = rl2 L R P p r ∧ ro2 = rlo P ro p r ∧ TM g h0 h9 t K N V L2 R2 (fu P1 r (P p)) C ro2 sz md := ⟨_, _, _, by funext q; grind [fu, rl1], by funext q; grind [fu, rl2], by grind [rlo], hT⟩
        refine zj_aload_n X dJ17_rotateLeft_85 rfl ?_
        refine zj_aload_n X dJ17_rotateLeft_86 rfl ?_
        refine tm_pL X hT hKr (some p) q1005 (fun _ h => h) dJ17_rotateLeft_87 (fun h9 hT => ?_)
        refine zj_aload_n X dJ17_rotateLeft_90 rfl ?_
        refine zj_aload_n X dJ17_rotateLeft_91 rfl ?_
        refine tm_pP X hT hp (some r) q1008 (fun _ h => h) dJ17_rotateLeft_92 (fun h9 hT => ?_)
        exact zj_vret X hQ (⟨rfl, by rw [eL, eR, eo, show fu (fu P1 r (P p)) p (some r) = rl3 L P p r from by funext q; grind [fu, rl3]] at hT; exact hT⟩) rfl (Nat.le_of_ble_eq_true rfl) (Nat.le_of_ble_eq_true rfl) dJ17_rotateLeft_95
      · have e_63 : L q = some p := hT.inj' (x := L q) (y := some p) (fun j hj => by obtain ⟨a, b, c, d, e, f, gg, hh, ii⟩ := id hW; grind) (fun j hj => by cases hj; exact hp) c_63
        refine zj_aload_n X dJ17_rotateLeft_66 rfl ?_
        refine zj_get X in_J25 rfl 4 (by decide) q1008 (fun _ h => h) (hT.e hp) rfl (Or.inl (by decide)) dJ17_rotateLeft_67 ?_
        rw [fu_n hpr, hP1, if_neg hb0, e_44]
        refine zj_aload_n X dJ17_rotateLeft_70 rfl ?_
        refine tm_pL X hT hKq (some r) q1005 (fun _ h => h) dJ17_rotateLeft_71 (fun h9 hT => ?_)
        refine zj_goto (tgt := 85) X dJ17_rotateLeft_74 (by decide) ?_
        obtain ⟨L2, R2, ro2, eL, eR, eo, hT⟩ : ∃ (L2 R2 : Nat → Option Nat) (ro2 : Option Nat), fu L2 r (some p) = rl1 L P p r ∧ R2 = rl2 L R P p r ∧ ro2 = rlo P ro p r ∧ TM g h0 h9 t K N V L2 R2 (fu P1 r (P p)) C ro2 sz md := ⟨_, _, _, by funext q; grind [fu, rl1], by funext q; grind [fu, rl2], by grind [rlo], hT⟩
        refine zj_aload_n X dJ17_rotateLeft_85 rfl ?_
        refine zj_aload_n X dJ17_rotateLeft_86 rfl ?_
        refine tm_pL X hT hKr (some p) q1005 (fun _ h => h) dJ17_rotateLeft_87 (fun h9 hT => ?_)
        refine zj_aload_n X dJ17_rotateLeft_90 rfl ?_
        refine zj_aload_n X dJ17_rotateLeft_91 rfl ?_
        refine tm_pP X hT hp (some r) q1008 (fun _ h => h) dJ17_rotateLeft_92 (fun h9 hT => ?_)
        exact zj_vret X hQ (⟨rfl, by rw [eL, eR, eo, show fu (fu P1 r (P p)) p (some r) = rl3 L P p r from by funext q; grind [fu, rl3]] at hT; exact hT⟩) rfl (Nat.le_of_ble_eq_true rfl) (Nat.le_of_ble_eq_true rfl) dJ17_rotateLeft_95
    · have e_44 := om_n c_44
      refine zj_aload_n X dJ17_rotateLeft_47 rfl ?_
      refine zj_aload_n X dJ17_rotateLeft_48 rfl ?_
      refine tm_ro X hT (some r) q676 (fun _ h => h) dJ17_rotateLeft_49 (fun h9 hT => ?_)
      refine zj_goto (tgt := 85) X dJ17_rotateLeft_52 (by decide) ?_
      obtain ⟨L2, R2, ro2, eL, eR, eo, hT⟩ : ∃ (L2 R2 : Nat → Option Nat) (ro2 : Option Nat), fu L2 r (some p) = rl1 L P p r ∧ R2 = rl2 L R P p r ∧ ro2 = rlo P ro p r ∧ TM g h0 h9 t K N V L2 R2 (fu P1 r (P p)) C ro2 sz md := ⟨_, _, _, by funext q; grind [fu, rl1], by funext q; grind [fu, rl2], by grind [rlo], hT⟩
      refine zj_aload_n X dJ17_rotateLeft_85 rfl ?_
      refine zj_aload_n X dJ17_rotateLeft_86 rfl ?_
      refine tm_pL X hT hKr (some p) q1005 (fun _ h => h) dJ17_rotateLeft_87 (fun h9 hT => ?_)
      refine zj_aload_n X dJ17_rotateLeft_90 rfl ?_
      refine zj_aload_n X dJ17_rotateLeft_91 rfl ?_
      refine tm_pP X hT hp (some r) q1008 (fun _ h => h) dJ17_rotateLeft_92 (fun h9 hT => ?_)
      exact zj_vret X hQ (⟨rfl, by rw [eL, eR, eo, show fu (fu P1 r (P p)) p (some r) = rl3 L P p r from by funext q; grind [fu, rl3]] at hT; exact hT⟩) rfl (Nat.le_of_ble_eq_true rfl) (Nat.le_of_ble_eq_true rfl) dJ17_rotateLeft_95
  · obtain ⟨b, e_21, rfl⟩ := om_s c_21
    refine zj_aload_n X dJ17_rotateLeft_24 rfl ?_
    refine zj_get X in_J25 rfl 2 (by decide) q1005 (fun _ h => h) (hT.e hKr) rfl (Or.inl (by decide)) dJ17_rotateLeft_25 ?_
    rw [e_21]
    refine zj_aload_n X dJ17_rotateLeft_28 rfl ?_
    refine tm_pP X hT (hb b e_21) (some p) q1008 (fun _ h => h) dJ17_rotateLeft_29 (fun h9 hT => ?_)
    obtain ⟨P1, hP1, hT⟩ : ∃ P1 : Nat → Option Nat, (∀ q, P1 q = if L r = some q then some p else P q) ∧ TM g h0 h9 t K N V L (fu R p (L r)) P1 C ro sz md := ⟨_, by intro q; grind [fu], hT⟩
    refine zj_aload_n X dJ17_rotateLeft_32 rfl ?_
    refine zj_aload_n X dJ17_rotateLeft_33 rfl ?_
    refine zj_get X in_J25 rfl 4 (by decide) q1008 (fun _ h => h) (hT.e hp) rfl (Or.inl (by decide)) dJ17_rotateLeft_34 ?_
    rw [hP1, if_neg hb0]
    refine tm_pP X hT hKr (P p) q1008 (fun _ h => h) dJ17_rotateLeft_37 (fun h9 hT => ?_)
    refine zj_aload_n X dJ17_rotateLeft_40 rfl ?_
    refine zj_get X in_J25 rfl 4 (by decide) q1008 (fun _ h => h) (hT.e hp) rfl (Or.inl (by decide)) dJ17_rotateLeft_41 ?_
    rw [fu_n hpr, hP1, if_neg hb0]
    refine zj_ifnonnull (tgt := 55) X dJ17_rotateLeft_44 (by decide) (fun a_44 c_44 => ?_) (fun c_44 => ?_)
    · obtain ⟨q, e_44, rfl⟩ := om_s c_44
      obtain ⟨hKq, hq1, hq2, hq3⟩ := hg q e_44
      refine zj_aload_n X dJ17_rotateLeft_55 rfl ?_
      refine zj_get X in_J25 rfl 4 (by decide) q1008 (fun _ h => h) (hT.e hp) rfl (Or.inl (by decide)) dJ17_rotateLeft_56 ?_
      rw [fu_n hpr, hP1, if_neg hb0, e_44]
      refine zj_get X in_J25 rfl 2 (by decide) q1005 (fun _ h => h) (hT.e hKq) rfl (Or.inl (by decide)) dJ17_rotateLeft_59 ?_
      refine zj_aload_n X dJ17_rotateLeft_62 rfl ?_
      refine zj_acmp_ne (ry := some _) (tgt := 77) X dJ17_rotateLeft_63 (by decide) (fun c_63 => ?_) (fun c_63 => ?_)
      · have e_63 : ¬ L q = some p := fun z => c_63 (by rw [z]; rfl)
        refine zj_aload_n X dJ17_rotateLeft_77 rfl ?_
        refine zj_get X in_J25 rfl 4 (by decide) q1008 (fun _ h => h) (hT.e hp) rfl (Or.inl (by decide)) dJ17_rotateLeft_78 ?_
        rw [fu_n hpr, hP1, if_neg hb0, e_44]
        refine zj_aload_n X dJ17_rotateLeft_81 rfl ?_
        refine tm_pR X hT hKq (some r) q1006 (fun _ h => h) dJ17_rotateLeft_82 (fun h9 hT => ?_)
        obtain ⟨L2, R2, ro2, eL, eR, eo, hT⟩ : ∃ (L2 R2 : Nat → Option Nat) (ro2 : Option Nat), fu L2 r (some p) = rl1 L P p r ∧ R2 = rl2 L R P p r ∧ ro2 = rlo P ro p r ∧ TM g h0 h9 t K N V L2 R2 (fu P1 r (P p)) C ro2 sz md := ⟨_, _, _, by funext q; grind [fu, rl1], by funext q; grind [fu, rl2], by grind [rlo], hT⟩
        refine zj_aload_n X dJ17_rotateLeft_85 rfl ?_
        refine zj_aload_n X dJ17_rotateLeft_86 rfl ?_
        refine tm_pL X hT hKr (some p) q1005 (fun _ h => h) dJ17_rotateLeft_87 (fun h9 hT => ?_)
        refine zj_aload_n X dJ17_rotateLeft_90 rfl ?_
        refine zj_aload_n X dJ17_rotateLeft_91 rfl ?_
        refine tm_pP X hT hp (some r) q1008 (fun _ h => h) dJ17_rotateLeft_92 (fun h9 hT => ?_)
        exact zj_vret X hQ (⟨rfl, by rw [eL, eR, eo, show fu (fu P1 r (P p)) p (some r) = rl3 L P p r from by funext q; grind [fu, rl3]] at hT; exact hT⟩) rfl (Nat.le_of_ble_eq_true rfl) (Nat.le_of_ble_eq_true rfl) dJ17_rotateLeft_95
      · have e_63 : L q = some p := hT.inj' (x := L q) (y := some p) (fun j hj => by obtain ⟨a, b, c, d, e, f, gg, hh, ii⟩ := id hW; grind) (fun j hj => by cases hj; exact hp) c_63
        refine zj_aload_n X dJ17_rotateLeft_66 rfl ?_
        refine zj_get X in_J25 rfl 4 (by decide) q1008 (fun _ h => h) (hT.e hp) rfl (Or.inl (by decide)) dJ17_rotateLeft_67 ?_
        rw [fu_n hpr, hP1, if_neg hb0, e_44]
        refine zj_aload_n X dJ17_rotateLeft_70 rfl ?_
        refine tm_pL X hT hKq (some r) q1005 (fun _ h => h) dJ17_rotateLeft_71 (fun h9 hT => ?_)
        refine zj_goto (tgt := 85) X dJ17_rotateLeft_74 (by decide) ?_
        obtain ⟨L2, R2, ro2, eL, eR, eo, hT⟩ : ∃ (L2 R2 : Nat → Option Nat) (ro2 : Option Nat), fu L2 r (some p) = rl1 L P p r ∧ R2 = rl2 L R P p r ∧ ro2 = rlo P ro p r ∧ TM g h0 h9 t K N V L2 R2 (fu P1 r (P p)) C ro2 sz md := ⟨_, _, _, by funext q; grind [fu, rl1], by funext q; grind [fu, rl2], by grind [rlo], hT⟩
        refine zj_aload_n X dJ17_rotateLeft_85 rfl ?_
        refine zj_aload_n X dJ17_rotateLeft_86 rfl ?_
        refine tm_pL X hT hKr (some p) q1005 (fun _ h => h) dJ17_rotateLeft_87 (fun h9 hT => ?_)
        refine zj_aload_n X dJ17_rotateLeft_90 rfl ?_
        refine zj_aload_n X dJ17_rotateLeft_91 rfl ?_
        refine tm_pP X hT hp (some r) q1008 (fun _ h => h) dJ17_rotateLeft_92 (fun h9 hT => ?_)
        exact zj_vret X hQ (⟨rfl, by rw [eL, eR, eo, show fu (fu P1 r (P p)) p (some r) = rl3 L P p r from by funext q; grind [fu, rl3]] at hT; exact hT⟩) rfl (Nat.le_of_ble_eq_true rfl) (Nat.le_of_ble_eq_true rfl) dJ17_rotateLeft_95
    · have e_44 := om_n c_44
      refine zj_aload_n X dJ17_rotateLeft_47 rfl ?_
      refine zj_aload_n X dJ17_rotateLeft_48 rfl ?_
      refine tm_ro X hT (some r) q676 (fun _ h => h) dJ17_rotateLeft_49 (fun h9 hT => ?_)
      refine zj_goto (tgt := 85) X dJ17_rotateLeft_52 (by decide) ?_
      obtain ⟨L2, R2, ro2, eL, eR, eo, hT⟩ : ∃ (L2 R2 : Nat → Option Nat) (ro2 : Option Nat), fu L2 r (some p) = rl1 L P p r ∧ R2 = rl2 L R P p r ∧ ro2 = rlo P ro p r ∧ TM g h0 h9 t K N V L2 R2 (fu P1 r (P p)) C ro2 sz md := ⟨_, _, _, by funext q; grind [fu, rl1], by funext q; grind [fu, rl2], by grind [rlo], hT⟩
      refine zj_aload_n X dJ17_rotateLeft_85 rfl ?_
      refine zj_aload_n X dJ17_rotateLeft_86 rfl ?_
      refine tm_pL X hT hKr (some p) q1005 (fun _ h => h) dJ17_rotateLeft_87 (fun h9 hT => ?_)
      refine zj_aload_n X dJ17_rotateLeft_90 rfl ?_
      refine zj_aload_n X dJ17_rotateLeft_91 rfl ?_
      refine tm_pP X hT hp (some r) q1008 (fun _ h => h) dJ17_rotateLeft_92 (fun h9 hT => ?_)
      exact zj_vret X hQ (⟨rfl, by rw [eL, eR, eo, show fu (fu P1 r (P p)) p (some r) = rl3 L P p r from by funext q; grind [fu, rl3]] at hT; exact hT⟩) rfl (Nat.le_of_ble_eq_true rfl) (Nat.le_of_ble_eq_true rfl) dJ17_rotateLeft_95

set_option maxHeartbeats 4000000 in
theorem cj_rotateRight (l : Launch) (g : zz_G) {h0 h : zz_H} {t : Nat} {K : Nat → Bool} {N V : Nat → Nat} {L R P : Nat → Option Nat} {C : Nat → Bool} {ro : Option Nat} {sz : Nat} {md : Int32} (hT : TM g h0 h t K N V L R P C ro sz md) {lo hi : Nat → Nat} (hW : tW K ro L R P lo hi) {p r : Nat} (hp : K p = true) (hr : L p = some r) : zz_C l g yJ17_rotateRight cJ17_rotateRight 3 none (zz_rm 1 20 0 0) [.ref t, .ref (N p)] h (fun v h' => v = none ∧ TM g h0 h' t K N V (rl2 R L P p r) (rl1 R P p r) (rl3 R P p r) C (rlo P ro p r) sz md) := by
  refine zz_C.of (by decide) (Nat.le_of_ble_eq_true rfl) (fun pP eE sS mM aA bB tT cC X Q hQ => ?_)
  obtain ⟨a, b, c, d, e, f, gg, hh, ii⟩ := id hW
  have hKr : K r = true := by grind
  have hpr : p ≠ r := by grind
  have hb0 : ¬ R r = some p := by grind
  have hb1 : ¬ R r = some r := by grind
  have hb : ∀ q, R r = some q → K q = true := by grind
  have hg : ∀ q, P p = some q → K q = true ∧ q ≠ p ∧ q ≠ r ∧ ¬ R r = some q := by grind
  clear a b c d e f gg hh ii
  refine zj_aload_n X dJ17_rotateRight_0 rfl ?_
  refine zj_ifnull (r := some _) (tgt := 95) X dJ17_rotateRight_1 (by decide) (fun c => by cases c) (fun a_1 c_1 => ?_)
  refine zj_aload_n X dJ17_rotateRight_4 rfl ?_
  refine zj_get X in_J25 rfl 2 (by decide) q1005 (fun _ h => h) (hT.e hp) rfl (Or.inl (by decide)) dJ17_rotateRight_5 ?_
  rw [hr]
  refine zj_astore_n X dJ17_rotateRight_8 (by decide) ?_
  refine zj_aload_n X dJ17_rotateRight_9 rfl ?_
  refine zj_aload_n X dJ17_rotateRight_10 rfl ?_
  refine zj_get X in_J25 rfl 3 (by decide) q1006 (fun _ h => h) (hT.e hKr) rfl (Or.inl (by decide)) dJ17_rotateRight_11 ?_
  refine tm_pL X hT hp (R r) q1005 (fun _ h => h) dJ17_rotateRight_14 (fun h9 hT => ?_)
  refine zj_aload_n X dJ17_rotateRight_17 rfl ?_
  refine zj_get X in_J25 rfl 3 (by decide) q1006 (fun _ h => h) (hT.e hKr) rfl (Or.inl (by decide)) dJ17_rotateRight_18 ?_
  refine zj_ifnull (tgt := 32) X dJ17_rotateRight_21 (by decide) (fun c_21 => ?_) (fun a_21 c_21 => ?_)
  · have e_21 := om_n c_21
    obtain ⟨P1, hP1, hT⟩ : ∃ P1 : Nat → Option Nat, (∀ q, P1 q = if R r = some q then some p else P q) ∧ TM g h0 h9 t K N V (fu L p (R r)) R P1 C ro sz md := ⟨_, by intro q; grind [fu], hT⟩
    refine zj_aload_n X dJ17_rotateRight_32 rfl ?_
    refine zj_aload_n X dJ17_rotateRight_33 rfl ?_
    refine zj_get X in_J25 rfl 4 (by decide) q1008 (fun _ h => h) (hT.e hp) rfl (Or.inl (by decide)) dJ17_rotateRight_34 ?_
    rw [hP1, if_neg hb0]
    refine tm_pP X hT hKr (P p) q1008 (fun _ h => h) dJ17_rotateRight_37 (fun h9 hT => ?_)
    refine zj_aload_n X dJ17_rotateRight_40 rfl ?_
    refine zj_get X in_J25 rfl 4 (by decide) q1008 (fun _ h => h) (hT.e hp) rfl (Or.inl (by decide)) dJ17_rotateRight_41 ?_
    rw [fu_n hpr, hP1, if_neg hb0]
    refine zj_ifnonnull (tgt := 55) X dJ17_rotateRight_44 (by decide) (fun a_44 c_44 => ?_) (fun c_44 => ?_)
    · obtain ⟨q, e_44, rfl⟩ := om_s c_44
      obtain ⟨hKq, hq1, hq2, hq3⟩ := hg q e_44
      refine zj_aload_n X dJ17_rotateRight_55 rfl ?_
      refine zj_get X in_J25 rfl 4 (by decide) q1008 (fun _ h => h) (hT.e hp) rfl (Or.inl (by decide)) dJ17_rotateRight_56 ?_
      rw [fu_n hpr, hP1, if_neg hb0, e_44]
      refine zj_get X in_J25 rfl 3 (by decide) q1006 (fun _ h => h) (hT.e hKq) rfl (Or.inl (by decide)) dJ17_rotateRight_59 ?_
      refine zj_aload_n X dJ17_rotateRight_62 rfl ?_
      refine zj_acmp_ne (ry := some _) (tgt := 77) X dJ17_rotateRight_63 (by decide) (fun c_63 => ?_) (fun c_63 => ?_)
      · have e_63 : ¬ R q = some p := fun z => c_63 (by rw [z]; rfl)
        refine zj_aload_n X dJ17_rotateRight_77 rfl ?_
        refine zj_get X in_J25 rfl 4 (by decide) q1008 (fun _ h => h) (hT.e hp) rfl (Or.inl (by decide)) dJ17_rotateRight_78 ?_
        rw [fu_n hpr, hP1, if_neg hb0, e_44]
        refine zj_aload_n X dJ17_rotateRight_81 rfl ?_
        refine tm_pL X hT hKq (some r) q1005 (fun _ h => h) dJ17_rotateRight_82 (fun h9 hT => ?_)
        obtain ⟨R2, L2, ro2, eR, eL, eo, hT⟩ : ∃ (R2 L2 : Nat → Option Nat) (ro2 : Option Nat), fu R2 r (some p) = rl1 R P p r ∧ L2 = rl2 R L P p r ∧ ro2 = rlo P ro p r ∧ TM g h0 h9 t K N V L2 R2 (fu P1 r (P p)) C ro2 sz md := ⟨_, _, _, by funext q; grind [fu, rl1], by funext q; grind [fu, rl2], by grind [rlo], hT⟩
        refine zj_aload_n X dJ17_rotateRight_85 rfl ?_
        refine zj_aload_n X dJ17_rotateRight_86 rfl ?_
        refine tm_pR X hT hKr (some p) q1006 (fun _ h => h) dJ17_rotateRight_87 (fun h9 hT => ?_)
        refine zj_aload_n X dJ17_rotateRight_90 rfl ?_
        refine zj_aload_n X dJ17_rotateRight_91 rfl ?_
        refine tm_pP X hT hp (some r) q1008 (fun _ h => h) dJ17_rotateRight_92 (fun h9 hT => ?_)
        exact zj_vret X hQ (⟨rfl, by rw [eR, eL, eo, show fu (fu P1 r (P p)) p (some r) = rl3 R P p r from by funext q; grind [fu, rl3]] at hT; exact hT⟩) rfl (Nat.le_of_ble_eq_true rfl) (Nat.le_of_ble_eq_true rfl) dJ17_rotateRight_95
      · have e_63 : R q = some p := hT.inj' (x := R q) (y := some p) (fun j hj => by obtain ⟨a, b, c, d, e, f, gg, hh, ii⟩ := id hW; grind) (fun j hj => by cases hj; exact hp) c_63
        refine zj_aload_n X dJ17_rotateRight_66 rfl ?_
        refine zj_get X in_J25 rfl 4 (by decide) q1008 (fun _ h => h) (hT.e hp) rfl (Or.inl (by decide)) dJ17_rotateRight_67 ?_
        rw [fu_n hpr, hP1, if_neg hb0, e_44]
        refine zj_aload_n X dJ17_rotateRight_70 rfl ?_
        refine tm_pR X hT hKq (some r) q1006 (fun _ h => h) dJ17_rotateRight_71 (fun h9 hT => ?_)
        refine zj_goto (tgt := 85) X dJ17_rotateRight_74 (by decide) ?_
        obtain ⟨R2, L2, ro2, eR, eL, eo, hT⟩ : ∃ (R2 L2 : Nat → Option Nat) (ro2 : Option Nat), fu R2 r (some p) = rl1 R P p r ∧ L2 = rl2 R L P p r ∧ ro2 = rlo P ro p r ∧ TM g h0 h9 t K N V L2 R2 (fu P1 r (P p)) C ro2 sz md := ⟨_, _, _, by funext q; grind [fu, rl1], by funext q; grind [fu, rl2], by grind [rlo], hT⟩
        refine zj_aload_n X dJ17_rotateRight_85 rfl ?_
        refine zj_aload_n X dJ17_rotateRight_86 rfl ?_
        refine tm_pR X hT hKr (some p) q1006 (fun _ h => h) dJ17_rotateRight_87 (fun h9 hT => ?_)
        refine zj_aload_n X dJ17_rotateRight_90 rfl ?_
        refine zj_aload_n X dJ17_rotateRight_91 rfl ?_
        refine tm_pP X hT hp (some r) q1008 (fun _ h => h) dJ17_rotateRight_92 (fun h9 hT => ?_)
        exact zj_vret X hQ (⟨rfl, by rw [eR, eL, eo, show fu (fu P1 r (P p)) p (some r) = rl3 R P p r from by funext q; grind [fu, rl3]] at hT; exact hT⟩) rfl (Nat.le_of_ble_eq_true rfl) (Nat.le_of_ble_eq_true rfl) dJ17_rotateRight_95
    · have e_44 := om_n c_44
      refine zj_aload_n X dJ17_rotateRight_47 rfl ?_
      refine zj_aload_n X dJ17_rotateRight_48 rfl ?_
      refine tm_ro X hT (some r) q676 (fun _ h => h) dJ17_rotateRight_49 (fun h9 hT => ?_)
      refine zj_goto (tgt := 85) X dJ17_rotateRight_52 (by decide) ?_
      obtain ⟨R2, L2, ro2, eR, eL, eo, hT⟩ : ∃ (R2 L2 : Nat → Option Nat) (ro2 : Option Nat), fu R2 r (some p) = rl1 R P p r ∧ L2 = rl2 R L P p r ∧ ro2 = rlo P ro p r ∧ TM g h0 h9 t K N V L2 R2 (fu P1 r (P p)) C ro2 sz md := ⟨_, _, _, by funext q; grind [fu, rl1], by funext q; grind [fu, rl2], by grind [rlo], hT⟩
      refine zj_aload_n X dJ17_rotateRight_85 rfl ?_
      refine zj_aload_n X dJ17_rotateRight_86 rfl ?_
      refine tm_pR X hT hKr (some p) q1006 (fun _ h => h) dJ17_rotateRight_87 (fun h9 hT => ?_)
      refine zj_aload_n X dJ17_rotateRight_90 rfl ?_
      refine zj_aload_n X dJ17_rotateRight_91 rfl ?_
      refine tm_pP X hT hp (some r) q1008 (fun _ h => h) dJ17_rotateRight_92 (fun h9 hT => ?_)
      exact zj_vret X hQ (⟨rfl, by rw [eR, eL, eo, show fu (fu P1 r (P p)) p (some r) = rl3 R P p r from by funext q; grind [fu, rl3]] at hT; exact hT⟩) rfl (Nat.le_of_ble_eq_true rfl) (Nat.le_of_ble_eq_true rfl) dJ17_rotateRight_95
  · obtain ⟨b, e_21, rfl⟩ := om_s c_21
    refine zj_aload_n X dJ17_rotateRight_24 rfl ?_
    refine zj_get X in_J25 rfl 3 (by decide) q1006 (fun _ h => h) (hT.e hKr) rfl (Or.inl (by decide)) dJ17_rotateRight_25 ?_
    rw [e_21]
    refine zj_aload_n X dJ17_rotateRight_28 rfl ?_
    refine tm_pP X hT (hb b e_21) (some p) q1008 (fun _ h => h) dJ17_rotateRight_29 (fun h9 hT => ?_)
    obtain ⟨P1, hP1, hT⟩ : ∃ P1 : Nat → Option Nat, (∀ q, P1 q = if R r = some q then some p else P q) ∧ TM g h0 h9 t K N V (fu L p (R r)) R P1 C ro sz md := ⟨_, by intro q; grind [fu], hT⟩
    refine zj_aload_n X dJ17_rotateRight_32 rfl ?_
    refine zj_aload_n X dJ17_rotateRight_33 rfl ?_
    refine zj_get X in_J25 rfl 4 (by decide) q1008 (fun _ h => h) (hT.e hp) rfl (Or.inl (by decide)) dJ17_rotateRight_34 ?_
    rw [hP1, if_neg hb0]
    refine tm_pP X hT hKr (P p) q1008 (fun _ h => h) dJ17_rotateRight_37 (fun h9 hT => ?_)
    refine zj_aload_n X dJ17_rotateRight_40 rfl ?_
    refine zj_get X in_J25 rfl 4 (by decide) q1008 (fun _ h => h) (hT.e hp) rfl (Or.inl (by decide)) dJ17_rotateRight_41 ?_
    rw [fu_n hpr, hP1, if_neg hb0]
    refine zj_ifnonnull (tgt := 55) X dJ17_rotateRight_44 (by decide) (fun a_44 c_44 => ?_) (fun c_44 => ?_)
    · obtain ⟨q, e_44, rfl⟩ := om_s c_44
      obtain ⟨hKq, hq1, hq2, hq3⟩ := hg q e_44
      refine zj_aload_n X dJ17_rotateRight_55 rfl ?_
      refine zj_get X in_J25 rfl 4 (by decide) q1008 (fun _ h => h) (hT.e hp) rfl (Or.inl (by decide)) dJ17_rotateRight_56 ?_
      rw [fu_n hpr, hP1, if_neg hb0, e_44]
      refine zj_get X in_J25 rfl 3 (by decide) q1006 (fun _ h => h) (hT.e hKq) rfl (Or.inl (by decide)) dJ17_rotateRight_59 ?_
      refine zj_aload_n X dJ17_rotateRight_62 rfl ?_
      refine zj_acmp_ne (ry := some _) (tgt := 77) X dJ17_rotateRight_63 (by decide) (fun c_63 => ?_) (fun c_63 => ?_)
      · have e_63 : ¬ R q = some p := fun z => c_63 (by rw [z]; rfl)
        refine zj_aload_n X dJ17_rotateRight_77 rfl ?_
        refine zj_get X in_J25 rfl 4 (by decide) q1008 (fun _ h => h) (hT.e hp) rfl (Or.inl (by decide)) dJ17_rotateRight_78 ?_
        rw [fu_n hpr, hP1, if_neg hb0, e_44]
        refine zj_aload_n X dJ17_rotateRight_81 rfl ?_
        refine tm_pL X hT hKq (some r) q1005 (fun _ h => h) dJ17_rotateRight_82 (fun h9 hT => ?_)
        obtain ⟨R2, L2, ro2, eR, eL, eo, hT⟩ : ∃ (R2 L2 : Nat → Option Nat) (ro2 : Option Nat), fu R2 r (some p) = rl1 R P p r ∧ L2 = rl2 R L P p r ∧ ro2 = rlo P ro p r ∧ TM g h0 h9 t K N V L2 R2 (fu P1 r (P p)) C ro2 sz md := ⟨_, _, _, by funext q; grind [fu, rl1], by funext q; grind [fu, rl2], by grind [rlo], hT⟩
        refine zj_aload_n X dJ17_rotateRight_85 rfl ?_
        refine zj_aload_n X dJ17_rotateRight_86 rfl ?_
        refine tm_pR X hT hKr (some p) q1006 (fun _ h => h) dJ17_rotateRight_87 (fun h9 hT => ?_)
        refine zj_aload_n X dJ17_rotateRight_90 rfl ?_
        refine zj_aload_n X dJ17_rotateRight_91 rfl ?_
        refine tm_pP X hT hp (some r) q1008 (fun _ h => h) dJ17_rotateRight_92 (fun h9 hT => ?_)
        exact zj_vret X hQ (⟨rfl, by rw [eR, eL, eo, show fu (fu P1 r (P p)) p (some r) = rl3 R P p r from by funext q; grind [fu, rl3]] at hT; exact hT⟩) rfl (Nat.le_of_ble_eq_true rfl) (Nat.le_of_ble_eq_true rfl) dJ17_rotateRight_95
      · have e_63 : R q = some p := hT.inj' (x := R q) (y := some p) (fun j hj => by obtain ⟨a, b, c, d, e, f, gg, hh, ii⟩ := id hW; grind) (fun j hj => by cases hj; exact hp) c_63
        refine zj_aload_n X dJ17_rotateRight_66 rfl ?_
        refine zj_get X in_J25 rfl 4 (by decide) q1008 (fun _ h => h) (hT.e hp) rfl (Or.inl (by decide)) dJ17_rotateRight_67 ?_
        rw [fu_n hpr, hP1, if_neg hb0, e_44]
        refine zj_aload_n X dJ17_rotateRight_70 rfl ?_
        refine tm_pR X hT hKq (some r) q1006 (fun _ h => h) dJ17_rotateRight_71 (fun h9 hT => ?_)
        refine zj_goto (tgt := 85) X dJ17_rotateRight_74 (by decide) ?_
        obtain ⟨R2, L2, ro2, eR, eL, eo, hT⟩ : ∃ (R2 L2 : Nat → Option Nat) (ro2 : Option Nat), fu R2 r (some p) = rl1 R P p r ∧ L2 = rl2 R L P p r ∧ ro2 = rlo P ro p r ∧ TM g h0 h9 t K N V L2 R2 (fu P1 r (P p)) C ro2 sz md := ⟨_, _, _, by funext q; grind [fu, rl1], by funext q; grind [fu, rl2], by grind [rlo], hT⟩
        refine zj_aload_n X dJ17_rotateRight_85 rfl ?_
        refine zj_aload_n X dJ17_rotateRight_86 rfl ?_
        refine tm_pR X hT hKr (some p) q1006 (fun _ h => h) dJ17_rotateRight_87 (fun h9 hT => ?_)
        refine zj_aload_n X dJ17_rotateRight_90 rfl ?_
        refine zj_aload_n X dJ17_rotateRight_91 rfl ?_
        refine tm_pP X hT hp (some r) q1008 (fun _ h => h) dJ17_rotateRight_92 (fun h9 hT => ?_)
        exact zj_vret X hQ (⟨rfl, by rw [eR, eL, eo, show fu (fu P1 r (P p)) p (some r) = rl3 R P p r from by funext q; grind [fu, rl3]] at hT; exact hT⟩) rfl (Nat.le_of_ble_eq_true rfl) (Nat.le_of_ble_eq_true rfl) dJ17_rotateRight_95
    · have e_44 := om_n c_44
      refine zj_aload_n X dJ17_rotateRight_47 rfl ?_
      refine zj_aload_n X dJ17_rotateRight_48 rfl ?_
      refine tm_ro X hT (some r) q676 (fun _ h => h) dJ17_rotateRight_49 (fun h9 hT => ?_)
      refine zj_goto (tgt := 85) X dJ17_rotateRight_52 (by decide) ?_
      obtain ⟨R2, L2, ro2, eR, eL, eo, hT⟩ : ∃ (R2 L2 : Nat → Option Nat) (ro2 : Option Nat), fu R2 r (some p) = rl1 R P p r ∧ L2 = rl2 R L P p r ∧ ro2 = rlo P ro p r ∧ TM g h0 h9 t K N V L2 R2 (fu P1 r (P p)) C ro2 sz md := ⟨_, _, _, by funext q; grind [fu, rl1], by funext q; grind [fu, rl2], by grind [rlo], hT⟩
      refine zj_aload_n X dJ17_rotateRight_85 rfl ?_
      refine zj_aload_n X dJ17_rotateRight_86 rfl ?_
      refine tm_pR X hT hKr (some p) q1006 (fun _ h => h) dJ17_rotateRight_87 (fun h9 hT => ?_)
      refine zj_aload_n X dJ17_rotateRight_90 rfl ?_
      refine zj_aload_n X dJ17_rotateRight_91 rfl ?_
      refine tm_pP X hT hp (some r) q1008 (fun _ h => h) dJ17_rotateRight_92 (fun h9 hT => ?_)
      exact zj_vret X hQ (⟨rfl, by rw [eR, eL, eo, show fu (fu P1 r (P p)) p (some r) = rl3 R P p r from by funext q; grind [fu, rl3]] at hT; exact hT⟩) rfl (Nat.le_of_ble_eq_true rfl) (Nat.le_of_ble_eq_true rfl) dJ17_rotateRight_95

