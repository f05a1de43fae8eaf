set_option maxRecDepth 100000
/-! THE LIBRARY: TreeMap.put, its values -/
set_option maxHeartbeats 4000000 in
theorem cj_Entry (l : Launch) (g : zz_G) {h : zz_H} {q a b : Nat} {o : Option Nat} (ha : h q = some (eO 9 [.null, .null, .null, .null, .null, .int 0])) : zz_C l g yJ25_init cJ25_init 4 none (zz_rm 1 20 0 0) [.ref q, .ref a, .ref b, va_rf o] h (fun r h' => r = none ∧ h' = zz_up h q (eO 9 [.ref a, .ref b, .null, .null, va_rf o, .int 1])) := by
  refine zz_C.of (by decide) (by cases o <;> exact Nat.le_of_ble_eq_true rfl) (fun pP eE sS mM aA bB tT cC X Q hQ => ?_)
  refine zj_aload_n X dJ25_init_0 rfl ?_
  refine zj_objInit X q999 q86 q87 (by decide) ⟨by decide, by decide⟩ dJ25_init_1 ?_
  refine zj_aload_n X dJ25_init_4 rfl ?_
  refine zj_iconst (v := 1) X dJ25_init_5 rfl ?_
  refine zj_put X in_J25 tyJ25 tyJ25_ok nmJ25 rfl 5 (by decide) q1009 (fun _ h => h) rfl (ha) rfl rfl (Nat.le_of_ble_eq_true rfl) (Or.inl (by decide)) dJ25_init_6 ?_
  refine zj_aload_n X dJ25_init_9 rfl ?_
  refine zj_aload_n X dJ25_init_10 rfl ?_
  refine zj_put X in_J25 tyJ25 tyJ25_ok nmJ25 rfl 0 (by decide) q1000 (fun _ h => h) rfl (zz_up_s) rfl rfl (Nat.le_of_ble_eq_true rfl) (Or.inl (by decide)) dJ25_init_11 ?_
  refine zj_aload_n X dJ25_init_14 rfl ?_
  refine zj_aload_n X dJ25_init_15 rfl ?_
  refine zj_put X in_J25 tyJ25 tyJ25_ok nmJ25 rfl 1 (by decide) q1002 (fun _ h => h) rfl (zz_up_s) rfl rfl (Nat.le_of_ble_eq_true rfl) (Or.inl (by decide)) dJ25_init_16 ?_
  refine zj_aload_n X dJ25_init_19 rfl ?_
  refine zj_aload_nq X dJ25_init_20 rfl ?_
  refine zj_put X in_J25 tyJ25 tyJ25_ok nmJ25 rfl 4 (by decide) q1007 (fun _ h => h) rfl (zz_up_s) (by cases o <;> rfl) (by cases o <;> rfl) (Nat.le_of_ble_eq_true rfl) (Or.inl (by decide)) dJ25_init_21 ?_
  exact zj_vret X hQ (⟨rfl, by rw [zz_up_u, zz_up_u, zz_up_u]; rfl⟩) rfl (Nat.le_of_ble_eq_true rfl) (Nat.le_of_ble_eq_true rfl) dJ25_init_24

theorem rN_fu {N : Nat → Nat} {o : Option Nat} {x q : Nat} (h : ¬ o = some x) : rN (fu N x q) o = rN N o := by
  cases o with
  | none => rfl
  | some j =>
    show Value.ref (fu N x q j) = Value.ref (N j)
    rw [fu_n (fun z => h (by rw [z]))]
/-- a new entry -/
theorem TM.ins {g : zz_G} {h0 h : zz_H} {t : Nat} {K : Nat → Bool} {N V : Nat → Nat} {L R P : Nat → Option Nat} {C : Nat → Bool} {ro : Option Nat} {sz : Nat} {md : Int32} (hT : TM g h0 h t K N V L R P C ro sz md) {lo hi : Nat → Nat} (hW : tW K ro L R P lo hi) {x q v : Nat} {pr : Option Nat} (hx : K x = false) (hpr : ∀ j, pr = some j → K j = true) (hq : h q = none) : TM g h0 (zz_up h q (eO 9 [.ref (gC g (128 + x)), .ref v, .null, .null, rN N pr, .int 1])) t (fu K x true) (fu N x q) (fu V x v) (fu L x none) (fu R x none) (fu P x pr) (fu C x true) ro sz md ∧ (∀ a, h0 a = none → a = q ∨ True) ∧ q ≠ t ∧ ∀ k, K k = true → q ≠ N k := by
  have hqt : q ≠ t := fun z => by rw [z, hT.o] at hq; cases hq
  have hqN : ∀ k, K k = true → q ≠ N k := fun k hk z => by rw [z, hT.e hk] at hq; cases hq
  have hKx : ∀ k, K k = true → k ≠ x := fun k hk z => by rw [z, hx] at hk; cases hk
  refine ⟨⟨?_, fun k hk => ?_, fun j k hj hk e => ?_, fun a ha hb => ?_⟩, fun a _ => Or.inr trivial, hqt, hqN⟩
  · rw [zz_up_n (Ne.symm hqt), hT.o]
    have e : rN (fu N x q) ro = rN N ro := rN_fu (fun z => by rw [(hW.2.2.1 x z).1] at hx; cases hx)
    simp only [tmF, e]
  · by_cases hkx : k = x
    · subst hkx
      rw [fu_s, zz_up_s]
      have e : rN (fu N k q) pr = rN N pr := rN_fu (fun z => by rw [hpr k z] at hx; cases hx)
      simp only [teF, fu_s, e]
      rfl
    · rw [fu_n hkx] at hk
      rw [fu_n hkx, zz_up_n (Ne.symm (hqN k hk)), hT.e hk]
      have e1 : rN (fu N x q) (L k) = rN N (L k) := rN_fu (fun z => by rw [(hW.2.2.2.1 k x hk z).1] at hx; cases hx)
      have e2 : rN (fu N x q) (R k) = rN N (R k) := rN_fu (fun z => by rw [(hW.2.2.2.2.1 k x hk z).1] at hx; cases hx)
      have e3 : rN (fu N x q) (P k) = rN N (P k) := rN_fu (fun z => by rw [(hW.2.2.2.2.2.1 k x hk z).1] at hx; cases hx)
      simp only [teF, fu_n hkx, e1, e2, e3]
  · by_cases hjx : j = x <;> by_cases hkx : k = x
    · rw [hjx, hkx]
    · rw [fu_n hkx] at hk
      rw [hjx, fu_s, fu_n hkx] at e
      exact absurd e (hqN k hk)
    · rw [fu_n hjx] at hj
      rw [hkx, fu_s, fu_n hjx] at e
      exact absurd e.symm (hqN j hj)
    · rw [fu_n hkx] at hk
      rw [fu_n hjx] at hj
      rw [fu_n hjx, fu_n hkx] at e
      exact hT.inj hj hk e
  · have haq : a ≠ q := by
      have := hb x fu_s
      rwa [fu_s] at this
    rw [zz_up_n haq]
    refine hT.2.2.2 a ha (fun k hk => ?_)
    have := hb k (by rw [fu_n (hKx k hk)]; exact hk)
    rwa [fu_n (hKx k hk)] at this

set_option maxHeartbeats 4000000 in
theorem cj_addE (l : Launch) (g : zz_G) {h0 h : zz_H} {t : Nat} {K : Nat → Bool} {N V : Nat → Nat} {L R P : Nat → Option Nat} {C : Nat → Bool} {ro : Option Nat} {sz : Nat} {md : Int32} (hT : TM g h0 h t K N V L R P C ro sz md) {lo hi : Nat → Nat} (hW : tW K ro L R P lo hi) {x v : Nat} (hx : x < 16) (hKx : K x = false) (hr : ro = none) (hsz : sz = 0) : zz_C l g yJ17_addEntryToEmptyMap cJ17_addEntryToEmptyMap 3 none (zz_rm (6) (143) (1) (6)) [.ref t, .ref (gC g (128 + x)), .ref v] h (fun r h' => r = none ∧ ∃ q, h q = none ∧ TMX g h0 h' t (fu K x true) (fu N x q) (fu V x v) (sz + 1) (md + 1)) := by
  refine zz_C.of (by decide) (Nat.le_of_ble_eq_true rfl) (fun pP eE sS mM aA bB tT cC X Q hQ => ?_)
  refine zj_aload_n X dJ17_addEntryToEmptyMap_0 rfl ?_
  refine zj_aload_n X dJ17_addEntryToEmptyMap_1 rfl ?_
  refine zj_aload_n X dJ17_addEntryToEmptyMap_2 rfl ?_
  refine zj_callVp (n := 2) (As := [_, _]) X (cj_tcompare l g hT hx) hT.o rfl rfl ⟨by decide, by decide, by decide +kernel⟩ (lw_V q990 q991 q992 q68 q993) ⟨Nat.le_of_ble_eq_true rfl, Nat.le_of_ble_eq_true rfl⟩ rfl rfl (Nat.le_of_ble_eq_true rfl) ⟨Nat.le_of_ble_eq_true rfl, Nat.le_of_ble_eq_true rfl⟩ dJ17_addEntryToEmptyMap_3 ?_
  refine zj_pop X dJ17_addEntryToEmptyMap_6 rfl ?_
  refine zj_aload_n X dJ17_addEntryToEmptyMap_7 rfl ?_
  refine zj_new (fs := [.null, .null, .null, .null, .null, .int 0]) (ci := 9) X in_J25 tyJ25 tyJ25_ok rfl q994 q995 q79 (by decide) (Or.inr (by decide)) (Nat.le_of_ble_eq_true rfl) (Nat.le_of_ble_eq_true rfl) dJ17_addEntryToEmptyMap_8 (fun q_8 n_8 => ?_)
  refine zj_dup X dJ17_addEntryToEmptyMap_11 rfl ?_
  refine zj_aload_n X dJ17_addEntryToEmptyMap_12 rfl ?_
  refine zj_aload_n X dJ17_addEntryToEmptyMap_13 rfl ?_
  refine zj_null X dJ17_addEntryToEmptyMap_14 ?_
  refine zj_callI (n := 3) (As := [_, _, _]) X (cj_Entry l g (o := none) zz_up_s) ⟨by decide, by decide, by decide +kernel⟩ rfl q998 q79 q996 q997 ⟨Nat.le_of_ble_eq_true rfl, Nat.le_of_ble_eq_true rfl⟩ rfl rfl (Nat.le_of_ble_eq_true rfl) ⟨Nat.le_of_ble_eq_true rfl, Nat.le_of_ble_eq_true rfl⟩ dJ17_addEntryToEmptyMap_15 (fun v_15 h_15 p_15 => ?_)
  obtain ⟨rfl, rfl⟩ := p_15
  rw [zz_up_u]
  obtain ⟨hT, -, hqt, hqN⟩ := hT.ins hW (v := v) (pr := none) hKx (fun j hj => by cases hj) n_8
  refine zj_st (st := rN (fu N x q_8) (some x) :: .ref t :: []) (by show [Value.ref q_8, Value.ref t] = [Value.ref (fu N x q_8 x), Value.ref t]; rw [fu_s]) ?_
  refine tm_ro X hT (some x) q676 (fun _ h => h) dJ17_addEntryToEmptyMap_18 (fun h9 hT => ?_)
  refine zj_aload_n X dJ17_addEntryToEmptyMap_21 rfl ?_
  refine zj_iconst (v := 1) X dJ17_addEntryToEmptyMap_22 rfl ?_
  refine zj_st (st := .int (nI (sz + 1)) :: .ref t :: []) (by rw [hsz]; rfl) ?_
  refine tm_sz X hT (sz + 1) q677 (fun _ h => h) dJ17_addEntryToEmptyMap_23 (fun h9 hT => ?_)
  refine zj_aload_n X dJ17_addEntryToEmptyMap_26 rfl ?_
  refine zj_dup X dJ17_addEntryToEmptyMap_27 rfl ?_
  refine zj_get X in_J17 rfl 5 (by decide) q678 (fun _ h => h) (hT.o) rfl (Or.inr (by decide)) dJ17_addEntryToEmptyMap_28 ?_
  refine zj_iconst (v := 1) X dJ17_addEntryToEmptyMap_31 rfl ?_
  refine zj_iadd X dJ17_addEntryToEmptyMap_32 ?_
  refine tm_md X hT (md + 1) q678 (fun _ h => h) dJ17_addEntryToEmptyMap_33 (fun h9 hT => ?_)
  exact zj_vret X hQ (⟨rfl, q_8, n_8, _, _, _, _, _, _, _, hT, tW_i0 hW hx hr, fun r hr => by cases hr; exact fu_s⟩) rfl (Nat.le_of_ble_eq_true rfl) (Nat.le_of_ble_eq_true rfl) dJ17_addEntryToEmptyMap_36

set_option maxHeartbeats 4000000 in
theorem cj_addEntry (l : Launch) (g : zz_G) {h0 h : zz_H} {t : Nat} {K : Nat → Bool} {N V : Nat → Nat} {L R P : Nat → Option Nat} {C : Nat → Bool} {ro : Option Nat} {sz : Nat} {md : Int32} (hT : TM g h0 h t K N V L R P C ro sz md) {lo hi : Nat → Nat} (hW : tW K ro L R P lo hi) {x v : Nat} (hx : x < 16) (hKx : K x = false) {p : Nat} (b : Bool) (hKp : K p = true) (hb : (b = true ∧ L p = none ∧ lo p ≤ x ∧ x < p) ∨ (b = false ∧ R p = none ∧ p < x ∧ x < hi p)) (hro : ∀ r, ro = some r → C r = true) : zz_C l g yJ17_addEntry cJ17_addEntry 6 none (zz_rm (3) (64) (1) (6)) [.ref t, .ref (gC g (128 + x)), .ref v, .ref (N p), .int (zb b)] h (fun r h' => r = none ∧ ∃ q, h q = none ∧ TMX g h0 h' t (fu K x true) (fu N x q) (fu V x v) (sz + 1) (md + 1)) := by
  refine zz_C.of (by decide) (Nat.le_of_ble_eq_true rfl) (fun pP eE sS mM aA bB tT cC X Q hQ => ?_)
  have hpx : p ≠ x := fun z => by rw [z, hKx] at hKp; cases hKp
  refine zj_new (fs := [.null, .null, .null, .null, .null, .int 0]) (ci := 9) X in_J25 tyJ25 tyJ25_ok rfl q994 q995 q79 (by decide) (Or.inr (by decide)) (Nat.le_of_ble_eq_true rfl) (Nat.le_of_ble_eq_true rfl) dJ17_addEntry_0 (fun q_0 n_0 => ?_)
  refine zj_dup X dJ17_addEntry_3 rfl ?_
  refine zj_aload_n X dJ17_addEntry_4 rfl ?_
  refine zj_aload_n X dJ17_addEntry_5 rfl ?_
  refine zj_aload_n X dJ17_addEntry_6 rfl ?_
  refine zj_callI (n := 3) (As := [_, _, _]) X (cj_Entry l g (o := (some (N p))) zz_up_s) ⟨by decide, by decide, by decide +kernel⟩ rfl q998 q79 q996 q997 ⟨Nat.le_of_ble_eq_true rfl, Nat.le_of_ble_eq_true rfl⟩ rfl rfl (Nat.le_of_ble_eq_true rfl) ⟨Nat.le_of_ble_eq_true rfl, Nat.le_of_ble_eq_true rfl⟩ dJ17_addEntry_7 (fun v_7 h_7 p_7 => ?_)
  obtain ⟨rfl, rfl⟩ := p_7
  rw [zz_up_u]
  obtain ⟨hT, -, hqt, hqN⟩ := hT.ins hW (v := v) (pr := (some p)) hKx (fun j hj => by cases hj; exact hKp) n_0
  refine zj_astore X dJ17_addEntry_10 (by decide) ?_
  refine zj_iload X dJ17_addEntry_12 rfl ?_
  refine zj_if_eq (tgt := 26) X dJ17_addEntry_14 (by decide) (fun c_14 => ?_) (fun c_14 => ?_)
  · have e_14 := zb_0.mp c_14
    obtain ⟨g1, g2, g3, g4⟩ := hb.resolve_left (fun z => by rw [e_14] at z; cases z.1)
    refine zj_aload_n X dJ17_addEntry_26 rfl ?_
    refine zj_aload X dJ17_addEntry_27 rfl ?_
    refine zj_st (st := rN (fu N x q_0) (some x) :: .ref (fu N x q_0 p) :: []) (by show [Value.ref q_0, Value.ref (N p)] = [Value.ref (fu N x q_0 x), Value.ref (fu N x q_0 p)]; rw [fu_s, fu_n hpx]) ?_
    refine tm_pR X hT (show fu K x true p = true by rw [fu_n hpx]; exact hKp) (some x) q1006 (fun _ h => h) dJ17_addEntry_29 (fun h9 hT => ?_)
    have hW2 := tW_iR hW hKx hKp g2 g3 g4 (tU_of hW hKx hKp (by have := hW.1 p hKp; omega) g4 (Or.inr ⟨g3, g2⟩))
    refine zj_aload_n X dJ17_addEntry_32 rfl ?_
    refine zj_aload X dJ17_addEntry_33 rfl ?_
    refine zj_st (st := .ref (fu N x q_0 x) :: .ref t :: []) (by rw [fu_s]) ?_
    refine zj_callV (n := 1) (As := [_]) X (cj_fix l g hT hW2 fu_s (fun r hr => by rcases Nat.decEq r x with z | z; exact Or.inr (by rw [fu_n z]; exact hro r hr); exact Or.inl z)) hT.o rfl rfl ⟨by decide, by decide, by decide +kernel⟩ (lw_V q1028 q1030 qs19 q68 q1031) ⟨Nat.le_of_ble_eq_true rfl, Nat.le_of_ble_eq_true rfl⟩ rfl rfl (Nat.le_of_ble_eq_true rfl) ⟨Nat.le_of_ble_eq_true rfl, Nat.le_of_ble_eq_true rfl⟩ dJ17_addEntry_35 (fun v_35 h_35 p_35 => ?_)
    obtain ⟨rfl, L2, R2, P2, C2, ro2, lo2, hi2, hT, hW3, hro3⟩ := p_35
    refine zj_aload_n X dJ17_addEntry_38 rfl ?_
    refine zj_dup X dJ17_addEntry_39 rfl ?_
    refine zj_get X in_J17 rfl 4 (by decide) q677 (fun _ h => h) (hT.o) rfl (Or.inr (by decide)) dJ17_addEntry_40 ?_
    refine zj_iconst (v := 1) X dJ17_addEntry_43 rfl ?_
    refine zj_iadd X dJ17_addEntry_44 ?_
    refine zj_top (nI_1 sz) ?_
    refine tm_sz X hT (sz + 1) q677 (fun _ h => h) dJ17_addEntry_45 (fun h9 hT => ?_)
    refine zj_aload_n X dJ17_addEntry_48 rfl ?_
    refine zj_dup X dJ17_addEntry_49 rfl ?_
    refine zj_get X in_J17 rfl 5 (by decide) q678 (fun _ h => h) (hT.o) rfl (Or.inr (by decide)) dJ17_addEntry_50 ?_
    refine zj_iconst (v := 1) X dJ17_addEntry_53 rfl ?_
    refine zj_iadd X dJ17_addEntry_54 ?_
    refine tm_md X hT (md + 1) q678 (fun _ h => h) dJ17_addEntry_55 (fun h9 hT => ?_)
    exact zj_vret X hQ (⟨rfl, q_0, n_0, _, _, _, _, _, _, _, hT, hW3, hro3⟩) rfl (Nat.le_of_ble_eq_true rfl) (Nat.le_of_ble_eq_true rfl) dJ17_addEntry_58
  · have e_14 := zb_n.mp c_14
    obtain ⟨g1, g2, g3, g4⟩ := hb.resolve_right (fun z => by rw [e_14] at z; cases z.1)
    refine zj_aload_n X dJ17_addEntry_17 rfl ?_
    refine zj_aload X dJ17_addEntry_18 rfl ?_
    refine zj_st (st := rN (fu N x q_0) (some x) :: .ref (fu N x q_0 p) :: []) (by show [Value.ref q_0, Value.ref (N p)] = [Value.ref (fu N x q_0 x), Value.ref (fu N x q_0 p)]; rw [fu_s, fu_n hpx]) ?_
    refine tm_pL X hT (show fu K x true p = true by rw [fu_n hpx]; exact hKp) (some x) q1005 (fun _ h => h) dJ17_addEntry_20 (fun h9 hT => ?_)
    refine zj_goto (tgt := 32) X dJ17_addEntry_23 (by decide) ?_
    have hW2 := tW_iL hW hKx hKp g2 g3 g4 (tU_of hW hKx hKp g3 (by have := hW.1 p hKp; omega) (Or.inl ⟨g4, g2⟩))
    refine zj_aload_n X dJ17_addEntry_32 rfl ?_
    refine zj_aload X dJ17_addEntry_33 rfl ?_
    refine zj_st (st := .ref (fu N x q_0 x) :: .ref t :: []) (by rw [fu_s]) ?_
    refine zj_callV (n := 1) (As := [_]) X (cj_fix l g hT hW2 fu_s (fun r hr => by rcases Nat.decEq r x with z | z; exact Or.inr (by rw [fu_n z]; exact hro r hr); exact Or.inl z)) hT.o rfl rfl ⟨by decide, by decide, by decide +kernel⟩ (lw_V q1028 q1030 qs19 q68 q1031) ⟨Nat.le_of_ble_eq_true rfl, Nat.le_of_ble_eq_true rfl⟩ rfl rfl (Nat.le_of_ble_eq_true rfl) ⟨Nat.le_of_ble_eq_true rfl, Nat.le_of_ble_eq_true rfl⟩ dJ17_addEntry_35 (fun v_35 h_35 p_35 => ?_)
    obtain ⟨rfl, L2, R2, P2, C2, ro2, lo2, hi2, hT, hW3, hro3⟩ := p_35
    refine zj_aload_n X dJ17_addEntry_38 rfl ?_
    refine zj_dup X dJ17_addEntry_39 rfl ?_
    refine zj_get X in_J17 rfl 4 (by decide) q677 (fun _ h => h) (hT.o) rfl (Or.inr (by decide)) dJ17_addEntry_40 ?_
    refine zj_iconst (v := 1) X dJ17_addEntry_43 rfl ?_
    refine zj_iadd X dJ17_addEntry_44 ?_
    refine zj_top (nI_1 sz) ?_
    refine tm_sz X hT (sz + 1) q677 (fun _ h => h) dJ17_addEntry_45 (fun h9 hT => ?_)
    refine zj_aload_n X dJ17_addEntry_48 rfl ?_
    refine zj_dup X dJ17_addEntry_49 rfl ?_
    refine zj_get X in_J17 rfl 5 (by decide) q678 (fun _ h => h) (hT.o) rfl (Or.inr (by decide)) dJ17_addEntry_50 ?_
    refine zj_iconst (v := 1) X dJ17_addEntry_53 rfl ?_
    refine zj_iadd X dJ17_addEntry_54 ?_
    refine tm_md X hT (md + 1) q678 (fun _ h => h) dJ17_addEntry_55 (fun h9 hT => ?_)
    exact zj_vret X hQ (⟨rfl, q_0, n_0, _, _, _, _, _, _, _, hT, hW3, hro3⟩) rfl (Nat.le_of_ble_eq_true rfl) (Nat.le_of_ble_eq_true rfl) dJ17_addEntry_58

set_option maxHeartbeats 4000000 in
theorem cj_put2 (l : Launch) (g : zz_G) {h0 h : zz_H} {t : Nat} {K : Nat → Bool} {N V : Nat → Nat} {L R P : Nat → Option Nat} {C : Nat → Bool} {ro : Option Nat} {sz : Nat} {md : Int32} (hT : TM g h0 h t K N V L R P C ro sz md) {lo hi : Nat → Nat} (hW : tW K ro L R P lo hi) {x v : Nat} (hx : x < 16) (hKx : K x = false) (hro : ∀ r, ro = some r → C r = true) (hsz : ro = none → sz = 0) : zz_C l g yJ17_put_2 cJ17_put_2 10 (some (.object "java/lang/Object")) (zz_rm (7) (165) (1) (6)) [.ref t, .ref (gC g (128 + x)), .ref v, .int 1] h (fun r h' => r = some .null ∧ ∃ q, h q = none ∧ TMX g h0 h' t (fu K x true) (fu N x q) (fu V x v) (sz + 1) (md + 1)) := by
  refine zz_C.of (by decide) (Nat.le_of_ble_eq_true rfl) (fun pP eE sS mM aA bB tT cC X Q hQ => ?_)
  refine zj_aload_n X dJ17_put_2_0 rfl ?_
  refine zj_get X in_J17 rfl 3 (by decide) q676 (fun _ h => h) (hT.o) rfl (Or.inr (by decide)) dJ17_put_2_1 ?_
  refine zj_astoreq X dJ17_put_2_4 (by decide) ?_
  refine zj_aloadq X dJ17_put_2_6 rfl ?_
  refine zj_ifnonnull (tgt := 19) X dJ17_put_2_8 (by decide) (fun a_8 c_8 => ?_) (fun c_8 => ?_)
  · obtain ⟨r0, e_8, rfl⟩ := om_s c_8
    have hK0 : K r0 = true := (hW.2.2.1 r0 e_8).1
    rw [e_8]
    refine zj_aload_n X dJ17_put_2_19 rfl ?_
    refine zj_get X in_J17 rfl 2 (by decide) q675 (fun _ h => h) (hT.o) rfl (Or.inr (by decide)) dJ17_put_2_20 ?_
    refine zj_astoreN X dJ17_put_2_23 (by decide) ?_
    refine zj_aloadN X dJ17_put_2_25 rfl ?_
    refine zj_ifnull (r := none) (tgt := 112) X dJ17_put_2_27 (by decide) (fun c_27 => ?_) (fun a c => by cases c)
    refine zj_aload_n X dJ17_put_2_112 rfl ?_
    refine zj_callSp (n := 1) (As := [_]) X (cj_requireNonNull l g h _) ⟨by decide, by decide, by decide +kernel⟩ (lw_S q909 q910 q64 q911) ⟨Nat.le_of_ble_eq_true rfl, Nat.le_of_ble_eq_true rfl⟩ rfl rfl (Nat.le_of_ble_eq_true rfl) ⟨Nat.le_of_ble_eq_true rfl, Nat.le_of_ble_eq_true rfl⟩ dJ17_put_2_113 ?_
    refine zj_pop X dJ17_put_2_116 rfl ?_
    refine zj_aload_n X dJ17_put_2_117 rfl ?_
    refine zj_castG X q912 q925 (X.rcI (by omega)) dJ17_put_2_118 ?_
    refine zj_astore X dJ17_put_2_121 (by decide) ?_
    have L_123 : ∀ k_123 : Nat, ∀ (j : Nat), tSr K lo hi x (some j) → hi j - lo j < k_123 → zz_J pP l eE (zz_rm (7) (165) (1) (6)) sS mM aA bB tT cC g 10 Q h 0 0 123 [(0, .ref t), (1, .ref (gC g (128 + x))), (2, .ref v), (3, .int 1), (4, .ref (N j)), (8, .ref (gC g (128 + x)))] [] := by
      intro k_123
      induction k_123 with
      | zero =>
        intro j hs hwd
        exact absurd hwd (Nat.not_lt_zero _)
      | succ k_123 ih_123 =>
        intro j hs hwd
        have hKj := (hs.2 j rfl).1
        have hj := tW_16 hW hKj
        refine zj_aload X dJ17_put_2_123 rfl ?_
        refine zj_astore X dJ17_put_2_125 (by decide) ?_
        refine zj_aload X dJ17_put_2_127 rfl ?_
        refine zj_aload X dJ17_put_2_129 rfl ?_
        refine zj_get X in_J25 rfl 0 (by decide) q1001 (fun _ h => h) (hT.e hKj) rfl (Or.inl (by decide)) dJ17_put_2_131 ?_
        refine zj_callFp (n := 1) (As := [_]) (ci := 10) (q := (RJ21, TJ21, 1)) (x2 := ⟨"java/lang/Comparable", "compareTo", "(Ljava/lang/Object;)I"⟩) X (cj_compareTo l g h (j := x) (k := j) (by omega) (by omega)) rfl (X.rcI (by omega)) ⟨⟨by simp [zz_fx], q929, q927, q925⟩, by decide, by decide, by decide +kernel⟩ (lw_F q914 q926 q928 q72 q930) ⟨Nat.le_of_ble_eq_true rfl, Nat.le_of_ble_eq_true rfl⟩ rfl rfl (Nat.le_of_ble_eq_true rfl) ⟨Nat.le_of_ble_eq_true rfl, Nat.le_of_ble_eq_true rfl⟩ dJ17_put_2_134 ?_
        refine zj_istore X dJ17_put_2_139 (by decide) ?_
        refine zj_iload X dJ17_put_2_141 rfl ?_
        refine zj_if_ge (tgt := 156) X dJ17_put_2_143 (by decide) (fun c_143 => ?_) (fun c_143 => ?_)
        · have e_143 := c_143
          refine zj_iload X dJ17_put_2_156 rfl ?_
          refine zj_if_le (tgt := 171) X dJ17_put_2_158 (by decide) (fun c_158 => ?_) (fun c_158 => ?_)
          · exact absurd hKj (by rw [← zcmp_e (by omega) (by omega) c_143 c_158, hKx]; decide)
            -- END
          · have e_158 := zcmp_g (by omega) (by omega) c_158
            refine zj_aload X dJ17_put_2_161 rfl ?_
            refine zj_get X in_J25 rfl 3 (by decide) q1006 (fun _ h => h) (hT.e hKj) rfl (Or.inl (by decide)) dJ17_put_2_163 ?_
            refine zj_astoreq X dJ17_put_2_166 (by decide) ?_
            refine zj_goto (tgt := 196) X dJ17_put_2_168 (by decide) ?_
            refine zj_aloadq X dJ17_put_2_196 rfl ?_
            refine zj_ifnonnull (tgt := 123) X dJ17_put_2_198 (by decide) (fun a_198 c_198 => ?_) (fun c_198 => ?_)
            · obtain ⟨m, e_198, rfl⟩ := om_s c_198
              rw [e_198]
              exact zj_lo (ih_123 m (by have := tSr_R hW hs e_158; rwa [e_198] at this) (by have := tW_wR hW hKj e_198; omega)) ⟨rfl, rfl, rfl, rfl, rfl, rfl, trivial⟩
              -- END
            · have e_198 := om_n c_198
              refine zj_aload_n X dJ17_put_2_201 rfl ?_
              refine zj_aload_n X dJ17_put_2_202 rfl ?_
              refine zj_aload_n X dJ17_put_2_203 rfl ?_
              refine zj_aload X dJ17_put_2_204 rfl ?_
              refine zj_iload X dJ17_put_2_206 rfl ?_
              refine zj_if_ge (tgt := 215) X dJ17_put_2_208 (by decide) (fun c_208 => ?_) (fun c_208 => absurd c_143 c_208)
              refine zj_iconst (v := 0) X dJ17_put_2_215 rfl ?_
              refine zj_callV (n := 4) (As := [_, _, _, _]) X (cj_addEntry l g hT hW hx hKx (p := j) false hKj (Or.inr ⟨rfl, e_198, e_158, (hs.2 j rfl).2.2⟩) hro) hT.o rfl rfl ⟨by decide, by decide, by decide +kernel⟩ (lw_V q1024 q1026 qs18 q68 q1027) ⟨Nat.le_of_ble_eq_true rfl, Nat.le_of_ble_eq_true rfl⟩ rfl rfl (Nat.le_of_ble_eq_true rfl) ⟨Nat.le_of_ble_eq_true rfl, Nat.le_of_ble_eq_true rfl⟩ dJ17_put_2_216 (fun v_216 h_216 p_216 => ?_)
              obtain ⟨rfl, qn, nn, hTX⟩ := p_216
              refine zj_null X dJ17_put_2_219 ?_
              exact zj_aret (r := none) X hQ (⟨rfl, qn, nn, hTX⟩) rfl (by first | exact Or.inl ⟨_, rfl⟩ | exact Or.inr ⟨_, rfl⟩) (by decide) (by decide) dJ17_put_2_220
        · have e_143 := zcmp_l (by omega) (by omega) c_143
          refine zj_aload X dJ17_put_2_146 rfl ?_
          refine zj_get X in_J25 rfl 2 (by decide) q1005 (fun _ h => h) (hT.e hKj) rfl (Or.inl (by decide)) dJ17_put_2_148 ?_
          refine zj_astoreq X dJ17_put_2_151 (by decide) ?_
          refine zj_goto (tgt := 196) X dJ17_put_2_153 (by decide) ?_
          refine zj_aloadq X dJ17_put_2_196 rfl ?_
          refine zj_ifnonnull (tgt := 123) X dJ17_put_2_198 (by decide) (fun a_198 c_198 => ?_) (fun c_198 => ?_)
          · obtain ⟨m, e_198, rfl⟩ := om_s c_198
            rw [e_198]
            exact zj_lo (ih_123 m (by have := tSr_L hW hs e_143; rwa [e_198] at this) (by have := tW_wL hW hKj e_198; omega)) ⟨rfl, rfl, rfl, rfl, rfl, rfl, trivial⟩
            -- END
          · have e_198 := om_n c_198
            refine zj_aload_n X dJ17_put_2_201 rfl ?_
            refine zj_aload_n X dJ17_put_2_202 rfl ?_
            refine zj_aload_n X dJ17_put_2_203 rfl ?_
            refine zj_aload X dJ17_put_2_204 rfl ?_
            refine zj_iload X dJ17_put_2_206 rfl ?_
            refine zj_if_ge (tgt := 215) X dJ17_put_2_208 (by decide) (fun c_208 => absurd c_208 c_143) (fun c_208 => ?_)
            refine zj_iconst (v := 1) X dJ17_put_2_211 rfl ?_
            refine zj_goto (tgt := 216) X dJ17_put_2_212 (by decide) ?_
            refine zj_callV (n := 4) (As := [_, _, _, _]) X (cj_addEntry l g hT hW hx hKx (p := j) true hKj (Or.inl ⟨rfl, e_198, (hs.2 j rfl).2.1, e_143⟩) hro) hT.o rfl rfl ⟨by decide, by decide, by decide +kernel⟩ (lw_V q1024 q1026 qs18 q68 q1027) ⟨Nat.le_of_ble_eq_true rfl, Nat.le_of_ble_eq_true rfl⟩ rfl rfl (Nat.le_of_ble_eq_true rfl) ⟨Nat.le_of_ble_eq_true rfl, Nat.le_of_ble_eq_true rfl⟩ dJ17_put_2_216 (fun v_216 h_216 p_216 => ?_)
            obtain ⟨rfl, qn, nn, hTX⟩ := p_216
            refine zj_null X dJ17_put_2_219 ?_
            exact zj_aret (r := none) X hQ (⟨rfl, qn, nn, hTX⟩) rfl (by first | exact Or.inl ⟨_, rfl⟩ | exact Or.inr ⟨_, rfl⟩) (by decide) (by decide) dJ17_put_2_220
    have hs0 : tSr K lo hi x (some r0) := by have := tSr_0 hW hx; rwa [e_8] at this
    exact zj_lo (L_123 17 r0 hs0 (by have := hW.1 r0 hK0; omega)) ⟨rfl, rfl, rfl, rfl, rfl, rfl, trivial⟩
  · have e_8 := om_n c_8
    refine zj_aload_n X dJ17_put_2_11 rfl ?_
    refine zj_aload_n X dJ17_put_2_12 rfl ?_
    refine zj_aload_n X dJ17_put_2_13 rfl ?_
    refine zj_callV (n := 2) (As := [_, _]) X (cj_addE l g hT hW hx hKx e_8 (hsz e_8)) hT.o rfl rfl ⟨by decide, by decide, by decide +kernel⟩ (lw_V q986 q988 qs17 q68 q989) ⟨Nat.le_of_ble_eq_true rfl, Nat.le_of_ble_eq_true rfl⟩ rfl rfl (Nat.le_of_ble_eq_true rfl) ⟨Nat.le_of_ble_eq_true rfl, Nat.le_of_ble_eq_true rfl⟩ dJ17_put_2_14 (fun v_14 h_14 p_14 => ?_)
    obtain ⟨rfl, qn, nn, hTX⟩ := p_14
    refine zj_null X dJ17_put_2_17 ?_
    exact zj_aret (r := none) X hQ (⟨rfl, qn, nn, hTX⟩) rfl (by first | exact Or.inl ⟨_, rfl⟩ | exact Or.inr ⟨_, rfl⟩) (by decide) (by decide) dJ17_put_2_18

set_option maxHeartbeats 4000000 in
theorem cj_put (l : Launch) (g : zz_G) {h0 h : zz_H} {t : Nat} {K : Nat → Bool} {N V : Nat → Nat} {L R P : Nat → Option Nat} {C : Nat → Bool} {ro : Option Nat} {sz : Nat} {md : Int32} (hT : TM g h0 h t K N V L R P C ro sz md) {lo hi : Nat → Nat} (hW : tW K ro L R P lo hi) {x v : Nat} (hx : x < 16) (hKx : K x = false) (hro : ∀ r, ro = some r → C r = true) (hsz : ro = none → sz = 0) : zz_C l g yJ17_put cJ17_put 3 (some (.object "java/lang/Object")) (zz_rm (8) (194) (1) (6)) [.ref t, .ref (gC g (128 + x)), .ref v] h (fun r h' => r = some .null ∧ ∃ q, h q = none ∧ TMX g h0 h' t (fu K x true) (fu N x q) (fu V x v) (sz + 1) (md + 1)) := by
  refine zz_C.of (by decide) (Nat.le_of_ble_eq_true rfl) (fun pP eE sS mM aA bB tT cC X Q hQ => ?_)
  refine zj_aload_n X dJ17_put_0 rfl ?_
  refine zj_aload_n X dJ17_put_1 rfl ?_
  refine zj_aload_n X dJ17_put_2 rfl ?_
  refine zj_iconst (v := 1) X dJ17_put_3 rfl ?_
  refine zj_callV (n := 3) (As := [_, _, _]) X (cj_put2 l g hT hW hx hKx hro hsz) hT.o rfl rfl ⟨by decide, by decide, by decide +kernel⟩ (lw_V q982 q984 qs16 q68 q985) ⟨Nat.le_of_ble_eq_true rfl, Nat.le_of_ble_eq_true rfl⟩ rfl rfl (Nat.le_of_ble_eq_true rfl) ⟨Nat.le_of_ble_eq_true rfl, Nat.le_of_ble_eq_true rfl⟩ dJ17_put_4 (fun v_4 h_4 p_4 => ?_)
  obtain ⟨rfl, qn, nn, hTX⟩ := p_4
  exact zj_aret (r := none) X hQ (⟨rfl, qn, nn, hTX⟩) rfl (by first | exact Or.inl ⟨_, rfl⟩ | exact Or.inr ⟨_, rfl⟩) (by decide) (by decide) dJ17_put_7

