set_option maxRecDepth 100000
/-! THE LIBRARY: boxes, ArrayList -/
set_option maxHeartbeats 4000000 in
theorem cj_AbstractCollection (l : Launch) (g : zz_G) (h : zz_H) (a : Nat) : zz_C l g yJ0_init cJ0_init 1 none (zz_rm 1 20 0 0) [.ref a] h (fun r h' => r = none ∧ h' = h) := by
  refine zz_C.of (by decide) (Nat.le_of_ble_eq_true rfl) (fun pP eE sS mM aA bB tT cC X Q hQ => ?_)
  refine zj_aload_n X dJ0_init_0 rfl ?_
  refine zj_objInit X q99 q86 q87 (by decide) ⟨by decide, by decide⟩ dJ0_init_1 ?_
  exact zj_vret X hQ (⟨rfl, rfl⟩) rfl (Nat.le_of_ble_eq_true rfl) (Nat.le_of_ble_eq_true rfl) dJ0_init_4

set_option maxHeartbeats 4000000 in
theorem cj_AbstractMap (l : Launch) (g : zz_G) (h : zz_H) (a : Nat) : zz_C l g yJ16_init cJ16_init 1 none (zz_rm 1 20 0 0) [.ref a] h (fun r h' => r = none ∧ h' = h) := by
  refine zz_C.of (by decide) (Nat.le_of_ble_eq_true rfl) (fun pP eE sS mM aA bB tT cC X Q hQ => ?_)
  refine zj_aload_n X dJ16_init_0 rfl ?_
  refine zj_objInit X q674 q86 q87 (by decide) ⟨by decide, by decide⟩ dJ16_init_1 ?_
  exact zj_vret X hQ (⟨rfl, rfl⟩) rfl (Nat.le_of_ble_eq_true rfl) (Nat.le_of_ble_eq_true rfl) dJ16_init_4

set_option maxHeartbeats 4000000 in
theorem cj_Number (l : Launch) (g : zz_G) (h : zz_H) (a : Nat) : zz_C l g yJ20_init cJ20_init 1 none (zz_rm 1 20 0 0) [.ref a] h (fun r h' => r = none ∧ h' = h) := by
  refine zz_C.of (by decide) (Nat.le_of_ble_eq_true rfl) (fun pP eE sS mM aA bB tT cC X Q hQ => ?_)
  refine zj_aload_n X dJ20_init_0 rfl ?_
  refine zj_objInit X q888 q86 q87 (by decide) ⟨by decide, by decide⟩ dJ20_init_1 ?_
  exact zj_vret X hQ (⟨rfl, rfl⟩) rfl (Nat.le_of_ble_eq_true rfl) (Nat.le_of_ble_eq_true rfl) dJ20_init_4

set_option maxHeartbeats 4000000 in
theorem cj_AbstractList (l : Launch) (g : zz_G) {h : zz_H} {a : Nat} {v1 v2 v3 : Value} (ha : h a = some (eO 6 [v1, v2, v3])) : zz_C l g yJ1_init cJ1_init 1 none (zz_rm 2 40 0 0) [.ref a] h (fun r h' => r = none ∧ h' = zz_up h a (eO 6 [.int 0, v2, v3])) := by
  refine zz_C.of (by decide) (Nat.le_of_ble_eq_true rfl) (fun pP eE sS mM aA bB tT cC X Q hQ => ?_)
  refine zj_aload_n X dJ1_init_0 rfl ?_
  refine zj_callI (n := 0) (As := []) X (cj_AbstractCollection l g h _) ⟨by decide, by decide, by decide +kernel⟩ rfl q98 q47 q96 q97 ⟨Nat.le_of_ble_eq_true rfl, Nat.le_of_ble_eq_true rfl⟩ rfl rfl (Nat.le_of_ble_eq_true rfl) ⟨Nat.le_of_ble_eq_true rfl, Nat.le_of_ble_eq_true rfl⟩ dJ1_init_1 (fun v_1 h_1 p_1 => ?_)
  obtain ⟨rfl, rfl⟩ := p_1
  refine zj_aload_n X dJ1_init_4 rfl ?_
  refine zj_iconst (v := 0) X dJ1_init_5 rfl ?_
  refine zj_put X in_J2 tyJ2 tyJ2_ok nmJ2 rfl 0 (by decide) q106 (fun _ h => h) rfl (ha) rfl rfl (Nat.le_of_ble_eq_true rfl) (Or.inl (by decide)) dJ1_init_6 ?_
  exact zj_vret X hQ (⟨rfl, rfl⟩) rfl (Nat.le_of_ble_eq_true rfl) (Nat.le_of_ble_eq_true rfl) dJ1_init_9

set_option maxHeartbeats 4000000 in
theorem cj_ArrayList (l : Launch) (g : zz_G) {h : zz_H} {a : Nat} (ha : h a = some (eO 6 [.int 0, .null, .int 0])) : zz_C l g yJ2_init cJ2_init 1 none (zz_rm 3 60 0 0) [.ref a] h (fun r h' => r = none ∧ h' = zz_up h a (eO 6 [.int 0, .ref (gC g 256), .int 0])) := by
  refine zz_C.of (by decide) (Nat.le_of_ble_eq_true rfl) (fun pP eE sS mM aA bB tT cC X Q hQ => ?_)
  refine zj_aload_n X dJ2_init_0 rfl ?_
  refine zj_callI (n := 0) (As := []) X (cj_AbstractList l g ha) ⟨by decide, by decide, by decide +kernel⟩ rfl q95 q48 q93 q94 ⟨Nat.le_of_ble_eq_true rfl, Nat.le_of_ble_eq_true rfl⟩ rfl rfl (Nat.le_of_ble_eq_true rfl) ⟨Nat.le_of_ble_eq_true rfl, Nat.le_of_ble_eq_true rfl⟩ dJ2_init_1 (fun v_1 h_1 p_1 => ?_)
  obtain ⟨rfl, rfl⟩ := p_1
  refine zj_aload_n X dJ2_init_4 rfl ?_
  refine zj_gets X X.dft q100 (fun _ h => h) dJ2_init_5 ?_
  refine zj_put X in_J2 tyJ2 tyJ2_ok nmJ2 rfl 1 (by decide) q102 (fun _ h => h) rfl (zz_up_s) rfl rfl (Nat.le_of_ble_eq_true rfl) (Or.inl (by decide)) dJ2_init_8 ?_
  exact zj_vret X hQ (⟨rfl, zz_up_u⟩) rfl (Nat.le_of_ble_eq_true rfl) (Nat.le_of_ble_eq_true rfl) dJ2_init_11

/-- the list al: n things, its array ar with cap places -/
def AL (g : zz_G) (h : zz_H) (al n : Nat) (md : Int32) (ar cap : Nat) (f : Nat → Option Nat) : Prop :=
  h al = some (eO 6 [.int md, .ref ar, .int (nI n)]) ∧ n ≤ 16 ∧ cap ≤ 100 ∧ ((n = 0 ∧ ar = gC g 256 ∧ cap = 0) ∨ (1 ≤ cap ∧ n ≤ cap ∧ h ar = some (eR cap f)))
theorem AL.arr {g : zz_G} {h : zz_H} {al n : Nat} {md : Int32} {ar cap : Nat} {f : Nat → Option Nat} (hA : AL g h al n md ar cap f) (hn : 0 < n) : n ≤ cap ∧ h ar = some (eR cap f) := by
  rcases hA.2.2.2 with ⟨h1, -, -⟩ | ⟨-, h2, h3⟩
  · omega
  · exact ⟨h2, h3⟩

set_option maxHeartbeats 4000000 in
theorem cj_size (l : Launch) (g : zz_G) {h : zz_H} {al n : Nat} {md : Int32} {ar cap : Nat} {f : Nat → Option Nat} (hA : AL g h al n md ar cap f) : zz_C l g yJ2_size cJ2_size 1 (some .int) (zz_rm 1 20 0 0) [.ref al] h (fun r h' => r = some (.int (nI n)) ∧ h' = h) := by
  refine zz_C.of (by decide) (Nat.le_of_ble_eq_true rfl) (fun pP eE sS mM aA bB tT cC X Q hQ => ?_)
  refine zj_aload_n X dJ2_size_0 rfl ?_
  refine zj_get X in_J2 rfl 2 (by decide) q105 (fun _ h => h) (hA.1) rfl (Or.inl (by decide)) dJ2_size_1 ?_
  exact zj_iret X hQ (⟨rfl, rfl⟩) rfl (Nat.le_of_ble_eq_true rfl) (Nat.le_of_ble_eq_true rfl) dJ2_size_4

set_option maxHeartbeats 4000000 in
theorem cj_elementData (l : Launch) (g : zz_G) {h : zz_H} {al n : Nat} {md : Int32} {ar cap : Nat} {f : Nat → Option Nat} (hA : AL g h al n md ar cap f) {i v : Nat} (hi : i < n) (hv : f i = some v) : zz_C l g yJ2_elementData cJ2_elementData 2 (some (.object "java/lang/Object")) (zz_rm 1 20 0 0) [.ref al, .int (nI i)] h (fun r h' => r = some (.ref v) ∧ h' = h) := by
  refine zz_C.of (by decide) (Nat.le_of_ble_eq_true rfl) (fun pP eE sS mM aA bB tT cC X Q hQ => ?_)
  have hc := hA.2.2.1
  refine zj_aload_n X dJ2_elementData_0 rfl ?_
  refine zj_get X in_J2 rfl 1 (by decide) q102 (fun _ h => h) (hA.1) rfl (Or.inl (by decide)) dJ2_elementData_1 ?_
  refine zj_iload_n X dJ2_elementData_4 rfl ?_
  refine zj_ald X ((hA.arr (by omega)).2) (rfl) (by have := (hA.arr (by omega)).1; omega) (by omega) dJ2_elementData_5 ?_
  rw [hv]
  exact zj_aret (r := some _) X hQ (⟨rfl, rfl⟩) rfl (by first | exact Or.inl ⟨_, rfl⟩ | exact Or.inr ⟨_, rfl⟩) (by decide) (by decide) dJ2_elementData_6

set_option maxHeartbeats 4000000 in
theorem cj_checkIndex0 (l : Launch) (g : zz_G) (h : zz_H) {i n : Nat} (hi : i < n) (hn : n ≤ 65536) : zz_C l g yJ15_checkIndex cJ15_checkIndex 3 (some .int) (zz_rm 1 20 0 0) [.int (nI i), .int (nI n), .null] h (fun r h' => r = some (.int (nI i)) ∧ h' = h) := by
  refine zz_C.of (by decide) (Nat.le_of_ble_eq_true rfl) (fun pP eE sS mM aA bB tT cC X Q hQ => ?_)
  refine zj_iload_n X dJ15_checkIndex_0 rfl ?_
  refine zj_if_lt (tgt := 9) X dJ15_checkIndex_1 (by decide) (fun c_1 => absurd c_1 (nI_pos (by omega))) (fun c_1 => ?_)
  refine zj_iload_n X dJ15_checkIndex_4 rfl ?_
  refine zj_iload_n X dJ15_checkIndex_5 rfl ?_
  refine zj_icmp_lt (tgt := 16) X dJ15_checkIndex_6 (by decide) (fun c_6 => ?_) (fun c_6 => absurd (nI_lt hi (by omega)) c_6)
  refine zj_iload_n X dJ15_checkIndex_16 rfl ?_
  exact zj_iret X hQ (⟨rfl, rfl⟩) rfl (Nat.le_of_ble_eq_true rfl) (Nat.le_of_ble_eq_true rfl) dJ15_checkIndex_17

set_option maxHeartbeats 4000000 in
theorem cj_checkIndex (l : Launch) (g : zz_G) (h : zz_H) {i n : Nat} (hi : i < n) (hn : n ≤ 65536) : zz_C l g yJ14_checkIndex cJ14_checkIndex 2 (some .int) (zz_rm 2 42 0 0) [.int (nI i), .int (nI n)] h (fun r h' => r = some (.int (nI i)) ∧ h' = h) := by
  refine zz_C.of (by decide) (Nat.le_of_ble_eq_true rfl) (fun pP eE sS mM aA bB tT cC X Q hQ => ?_)
  refine zj_iload_n X dJ14_checkIndex_0 rfl ?_
  refine zj_iload_n X dJ14_checkIndex_1 rfl ?_
  refine zj_null X dJ14_checkIndex_2 ?_
  refine zj_callSp (n := 3) (As := [_, _, _]) X (cj_checkIndex0 l g h hi hn) ⟨by decide, by decide, by decide +kernel⟩ (lw_S q299 q300 q65 q301) ⟨Nat.le_of_ble_eq_true rfl, Nat.le_of_ble_eq_true rfl⟩ rfl rfl (Nat.le_of_ble_eq_true rfl) ⟨Nat.le_of_ble_eq_true rfl, Nat.le_of_ble_eq_true rfl⟩ dJ14_checkIndex_3 ?_
  exact zj_iret X hQ (⟨rfl, rfl⟩) rfl (Nat.le_of_ble_eq_true rfl) (Nat.le_of_ble_eq_true rfl) dJ14_checkIndex_6

set_option maxHeartbeats 4000000 in
theorem cj_get (l : Launch) (g : zz_G) {h : zz_H} {al n : Nat} {md : Int32} {ar cap : Nat} {f : Nat → Option Nat} (hA : AL g h al n md ar cap f) {i v : Nat} (hi : i < n) (hv : f i = some v) : zz_C l g yJ2_get cJ2_get 2 (some (.object "java/lang/Object")) (zz_rm 3 63 0 0) [.ref al, .int (nI i)] h (fun r h' => r = some (.ref v) ∧ h' = h) := by
  refine zz_C.of (by decide) (Nat.le_of_ble_eq_true rfl) (fun pP eE sS mM aA bB tT cC X Q hQ => ?_)
  have hn := hA.2.1
  refine zj_iload_n X dJ2_get_0 rfl ?_
  refine zj_aload_n X dJ2_get_1 rfl ?_
  refine zj_get X in_J2 rfl 2 (by decide) q105 (fun _ h => h) (hA.1) rfl (Or.inl (by decide)) dJ2_get_2 ?_
  refine zj_callSp (n := 2) (As := [_, _]) X (cj_checkIndex l g h hi (by omega)) ⟨by decide, by decide, by decide +kernel⟩ (lw_S q296 q297 q64 q298) ⟨Nat.le_of_ble_eq_true rfl, Nat.le_of_ble_eq_true rfl⟩ rfl rfl (Nat.le_of_ble_eq_true rfl) ⟨Nat.le_of_ble_eq_true rfl, Nat.le_of_ble_eq_true rfl⟩ dJ2_get_5 ?_
  refine zj_pop X dJ2_get_8 rfl ?_
  refine zj_aload_n X dJ2_get_9 rfl ?_
  refine zj_iload_n X dJ2_get_10 rfl ?_
  refine zj_callVp (n := 1) (As := [_]) X (cj_elementData l g hA hi hv) hA.1 rfl rfl ⟨by decide, by decide, by decide +kernel⟩ (lw_V q302 q303 q304 q49 q305) ⟨Nat.le_of_ble_eq_true rfl, Nat.le_of_ble_eq_true rfl⟩ rfl rfl (Nat.le_of_ble_eq_true rfl) ⟨Nat.le_of_ble_eq_true rfl, Nat.le_of_ble_eq_true rfl⟩ dJ2_get_11 ?_
  exact zj_aret (r := some _) X hQ (⟨rfl, rfl⟩) rfl (by first | exact Or.inl ⟨_, rfl⟩ | exact Or.inr ⟨_, rfl⟩) (by decide) (by decide) dJ2_get_14

set_option maxHeartbeats 4000000 in
theorem cj_Itr (l : Launch) (g : zz_G) {h : zz_H} {al n : Nat} {md : Int32} {ar cap : Nat} {f : Nat → Option Nat} (hA : AL g h al n md ar cap f) {a : Nat} {v3 : Value} (ha : h a = some (eO 7 [.int 0, .int 0, .int 0, v3])) (hne : al ≠ a) : zz_C l g yJ18_init cJ18_init 2 none (zz_rm 1 20 0 0) [.ref a, .ref al] h (fun r h' => r = none ∧ h' = zz_up h a (eO 7 [.int 0, .int (-1), .int md, .ref al])) := by
  refine zz_C.of (by decide) (Nat.le_of_ble_eq_true rfl) (fun pP eE sS mM aA bB tT cC X Q hQ => ?_)
  refine zj_aload_n X dJ18_init_0 rfl ?_
  refine zj_aload_n X dJ18_init_1 rfl ?_
  refine zj_putF X in_J18 tyJ18 tyJ18_ok nmJ18 rfl 3 (by decide) q166 (fun _ h => h) rfl rfl rfl (ha) rfl rfl (Nat.le_of_ble_eq_true rfl) (Or.inl (by decide)) dJ18_init_2 ?_
  refine zj_aload_n X dJ18_init_5 rfl ?_
  refine zj_objInit X q162 q86 q87 (by decide) ⟨by decide, by decide⟩ dJ18_init_6 ?_
  refine zj_aload_n X dJ18_init_9 rfl ?_
  refine zj_iconst (v := (-1)) X dJ18_init_10 rfl ?_
  refine zj_put X in_J18 tyJ18 tyJ18_ok nmJ18 rfl 1 (by decide) q164 (fun _ h => h) rfl (zz_up_s) rfl rfl (Nat.le_of_ble_eq_true rfl) (Or.inl (by decide)) dJ18_init_11 ?_
  refine zj_aload_n X dJ18_init_14 rfl ?_
  refine zj_aload_n X dJ18_init_15 rfl ?_
  refine zj_get X in_J18 rfl 3 (by decide) q166 (fun _ h => h) (zz_up_s) rfl (Or.inl (by decide)) dJ18_init_16 ?_
  refine zj_get X in_J2 rfl 0 (by decide) q107 (fun _ h => u_same (X.ts _ q108) _ h) ((show _ = _ by rw [zz_up_n hne, zz_up_n hne]; exact hA.1)) rfl (Or.inl (by decide)) dJ18_init_19 ?_
  refine zj_put X in_J18 tyJ18 tyJ18_ok nmJ18 rfl 2 (by decide) q165 (fun _ h => h) rfl (zz_up_s) rfl rfl (Nat.le_of_ble_eq_true rfl) (Or.inl (by decide)) dJ18_init_22 ?_
  exact zj_vret X hQ (⟨rfl, by rw [zz_up_u, zz_up_u]; rfl⟩) rfl (Nat.le_of_ble_eq_true rfl) (Nat.le_of_ble_eq_true rfl) dJ18_init_25

set_option maxHeartbeats 4000000 in
theorem cj_iterator (l : Launch) (g : zz_G) {h : zz_H} {al n : Nat} {md : Int32} {ar cap : Nat} {f : Nat → Option Nat} (hA : AL g h al n md ar cap f) : zz_C l g yJ2_iterator cJ2_iterator 1 (some (.object "java/util/Iterator")) (zz_rm (2) (41) (1) (4)) [.ref al] h (fun r h' => ∃ q, r = some (.ref q) ∧ h q = none ∧ h' = zz_up h q (eO 7 [.int 0, .int (-1), .int md, .ref al])) := by
  refine zz_C.of (by decide) (Nat.le_of_ble_eq_true rfl) (fun pP eE sS mM aA bB tT cC X Q hQ => ?_)
  refine zj_new (fs := [.int 0, .int 0, .int 0, .null]) (ci := 7) X in_J18 tyJ18 tyJ18_ok rfl q157 q158 q69 (by decide) (Or.inr (by decide)) (Nat.le_of_ble_eq_true rfl) (Nat.le_of_ble_eq_true rfl) dJ2_iterator_0 (fun q_0 n_0 => ?_)
  have hne : al ≠ q_0 := fun z => by rw [← z, hA.1] at n_0; cases n_0
  have hA5 : AL g (zz_up h q_0 (eO 7 [.int 0, .int 0, .int 0, .null])) al n md ar cap f := by
    obtain ⟨h1, h2, h3, h4⟩ := hA
    refine ⟨by rw [zz_up_n hne]; exact h1, h2, h3, h4.imp id (fun ⟨z1, z2, z3⟩ => ⟨z1, z2, ?_⟩)⟩
    have hne2 : ar ≠ q_0 := fun z => by rw [← z, z3] at n_0; cases n_0
    rw [zz_up_n hne2]; exact z3
  refine zj_dup X dJ2_iterator_3 rfl ?_
  refine zj_aload_n X dJ2_iterator_4 rfl ?_
  refine zj_callI (n := 1) (As := [_]) X (cj_Itr l g (al := al) (n := n) (md := md) (ar := ar) (cap := cap) (f := f) hA5 zz_up_s hne) ⟨by decide, by decide, by decide +kernel⟩ rfl q161 q69 q159 q160 ⟨Nat.le_of_ble_eq_true rfl, Nat.le_of_ble_eq_true rfl⟩ rfl rfl (Nat.le_of_ble_eq_true rfl) ⟨Nat.le_of_ble_eq_true rfl, Nat.le_of_ble_eq_true rfl⟩ dJ2_iterator_5 (fun v_5 h_5 p_5 => ?_)
  obtain ⟨rfl, rfl⟩ := p_5
  exact zj_aret (r := some _) X hQ (⟨_, rfl, n_0, zz_up_u⟩) rfl (by first | exact Or.inl ⟨_, rfl⟩ | exact Or.inr ⟨_, rfl⟩) (by decide) (by decide) dJ2_iterator_8

set_option maxHeartbeats 4000000 in
theorem cj_hasNext (l : Launch) (g : zz_G) {h : zz_H} {al n : Nat} {md : Int32} {ar cap : Nat} {f : Nat → Option Nat} (hA : AL g h al n md ar cap f) {it c0 : Nat} {v1 v2 : Value} (hc : c0 ≤ n) (ha : h it = some (eO 7 [.int (nI c0), v1, v2, .ref al])) : zz_C l g yJ18_hasNext cJ18_hasNext 1 (some .boolean) (zz_rm 1 20 0 0) [.ref it] h (fun r h' => r = some (.int (zb (decide (c0 < n)))) ∧ h' = h) := by
  refine zz_C.of (by decide) (Nat.le_of_ble_eq_true rfl) (fun pP eE sS mM aA bB tT cC X Q hQ => ?_)
  have hn := hA.2.1
  refine zj_aload_n X dJ18_hasNext_0 rfl ?_
  refine zj_get X in_J18 rfl 0 (by decide) q163 (fun _ h => h) (ha) rfl (Or.inl (by decide)) dJ18_hasNext_1 ?_
  refine zj_aload_n X dJ18_hasNext_4 rfl ?_
  refine zj_get X in_J18 rfl 3 (by decide) q166 (fun _ h => h) (ha) rfl (Or.inl (by decide)) dJ18_hasNext_5 ?_
  refine zj_getN X in_J2 rfl 2 (by decide) q104 (fun _ h => h) (hA.1) rfl (Or.inl (by decide)) dJ18_hasNext_8 ?_
  refine zj_icmp_eq (tgt := 18) X dJ18_hasNext_11 (by decide) (fun c_11 => ?_) (fun c_11 => ?_)
  · refine zj_iconst (v := 0) X dJ18_hasNext_18 rfl ?_
    exact zj_zret X hQ (⟨zi_c (by rw [show decide (c0 < n) = false from decide_eq_false (by have := (nI_eq (by omega) (by omega)).mp c_11; omega)]; rfl), rfl⟩) rfl (by decide) (Nat.le_of_ble_eq_true rfl) (Nat.le_of_ble_eq_true rfl) dJ18_hasNext_19
  · refine zj_iconst (v := 1) X dJ18_hasNext_14 rfl ?_
    refine zj_goto (tgt := 19) X dJ18_hasNext_15 (by decide) ?_
    exact zj_zret X hQ (⟨zi_c (by rw [show decide (c0 < n) = true from decide_eq_true (by rcases Nat.lt_or_ge c0 n with z | z; exact z; exact absurd (by rw [show c0 = n by omega]) c_11)]; rfl), rfl⟩) rfl (by decide) (Nat.le_of_ble_eq_true rfl) (Nat.le_of_ble_eq_true rfl) dJ18_hasNext_19

set_option maxHeartbeats 4000000 in
theorem cj_comod (l : Launch) (g : zz_G) {h : zz_H} {al n : Nat} {md : Int32} {ar cap : Nat} {f : Nat → Option Nat} (hA : AL g h al n md ar cap f) {it : Nat} {v0 v1 : Value} (ha : h it = some (eO 7 [v0, v1, .int md, .ref al])) : zz_C l g yJ18_checkForComodification cJ18_checkForComodification 1 none (zz_rm 1 20 0 0) [.ref it] h (fun r h' => r = none ∧ h' = h) := by
  refine zz_C.of (by decide) (Nat.le_of_ble_eq_true rfl) (fun pP eE sS mM aA bB tT cC X Q hQ => ?_)
  refine zj_aload_n X dJ18_checkForComodification_0 rfl ?_
  refine zj_get X in_J18 rfl 3 (by decide) q166 (fun _ h => h) (ha) rfl (Or.inl (by decide)) dJ18_checkForComodification_1 ?_
  refine zj_get X in_J2 rfl 0 (by decide) q107 (fun _ h => u_same (X.ts _ q108) _ h) (hA.1) rfl (Or.inl (by decide)) dJ18_checkForComodification_4 ?_
  refine zj_aload_n X dJ18_checkForComodification_7 rfl ?_
  refine zj_get X in_J18 rfl 2 (by decide) q165 (fun _ h => h) (ha) rfl (Or.inl (by decide)) dJ18_checkForComodification_8 ?_
  refine zj_icmp_eq (tgt := 22) X dJ18_checkForComodification_11 (by decide) (fun c_11 => ?_) (fun c_11 => absurd rfl c_11)
  exact zj_vret X hQ (⟨rfl, rfl⟩) rfl (Nat.le_of_ble_eq_true rfl) (Nat.le_of_ble_eq_true rfl) dJ18_checkForComodification_22

set_option maxHeartbeats 4000000 in
theorem cj_next (l : Launch) (g : zz_G) {h : zz_H} {al n : Nat} {md : Int32} {ar cap : Nat} {f : Nat → Option Nat} (hA : AL g h al n md ar cap f) {it c0 v : Nat} {v1 : Value} (hc : c0 < n) (hv : f c0 = some v) (ha : h it = some (eO 7 [.int (nI c0), v1, .int md, .ref al])) : zz_C l g yJ18_next cJ18_next 3 (some (.object "java/lang/Object")) (zz_rm 2 40 0 0) [.ref it] h (fun r h' => r = some (.ref v) ∧ h' = zz_up h it (eO 7 [.int (nI (c0 + 1)), .int (nI c0), .int md, .ref al])) := by
  refine zz_C.of (by decide) (Nat.le_of_ble_eq_true rfl) (fun pP eE sS mM aA bB tT cC X Q hQ => ?_)
  have hn := hA.2.1
  obtain ⟨hb1, hb⟩ := hA.arr (by omega)
  have hcap := hA.2.2.1
  have hne : ar ≠ it := fun z => by rw [z, ha] at hb; cases hb
  refine zj_aload_n X dJ18_next_0 rfl ?_
  refine zj_callV (n := 0) (As := []) X (cj_comod l g hA ha) ha rfl rfl ⟨by decide, by decide, by decide +kernel⟩ (lw_V q201 q202 q203 q69 q204) ⟨Nat.le_of_ble_eq_true rfl, Nat.le_of_ble_eq_true rfl⟩ rfl rfl (Nat.le_of_ble_eq_true rfl) ⟨Nat.le_of_ble_eq_true rfl, Nat.le_of_ble_eq_true rfl⟩ dJ18_next_1 (fun v_1 h_1 p_1 => ?_)
  obtain ⟨rfl, rfl⟩ := p_1
  refine zj_aload_n X dJ18_next_4 rfl ?_
  refine zj_get X in_J18 rfl 0 (by decide) q163 (fun _ h => h) (ha) rfl (Or.inl (by decide)) dJ18_next_5 ?_
  refine zj_istore_n X dJ18_next_8 (by decide) ?_
  refine zj_iload_n X dJ18_next_9 rfl ?_
  refine zj_aload_n X dJ18_next_10 rfl ?_
  refine zj_get X in_J18 rfl 3 (by decide) q166 (fun _ h => h) (ha) rfl (Or.inl (by decide)) dJ18_next_11 ?_
  refine zj_getN X in_J2 rfl 2 (by decide) q104 (fun _ h => h) (hA.1) rfl (Or.inl (by decide)) dJ18_next_14 ?_
  refine zj_icmp_lt (tgt := 28) X dJ18_next_17 (by decide) (fun c_17 => ?_) (fun c_17 => absurd (nI_lt hc (by omega)) c_17)
  refine zj_aload_n X dJ18_next_28 rfl ?_
  refine zj_get X in_J18 rfl 3 (by decide) q166 (fun _ h => h) (ha) rfl (Or.inl (by decide)) dJ18_next_29 ?_
  refine zj_get X in_J2 rfl 1 (by decide) q103 (fun _ h => h) (hA.1) rfl (Or.inl (by decide)) dJ18_next_32 ?_
  refine zj_astore_n X dJ18_next_35 (by decide) ?_
  refine zj_iload_n X dJ18_next_36 rfl ?_
  refine zj_aload_n X dJ18_next_37 rfl ?_
  refine zj_alenR X (hb) dJ18_next_38 ?_
  refine zj_icmp_lt (tgt := 50) X dJ18_next_39 (by decide) (fun c_39 => ?_) (fun c_39 => absurd (nI_lt (show c0 < cap by omega) (by omega)) c_39)
  refine zj_aload_n X dJ18_next_50 rfl ?_
  refine zj_iload_n X dJ18_next_51 rfl ?_
  refine zj_iconst (v := 1) X dJ18_next_52 rfl ?_
  refine zj_iadd X dJ18_next_53 ?_
  refine zj_top (nI_1 c0) ?_
  refine zj_put X in_J18 tyJ18 tyJ18_ok nmJ18 rfl 0 (by decide) q163 (fun _ h => h) rfl (ha) rfl rfl (Nat.le_of_ble_eq_true rfl) (Or.inl (by decide)) dJ18_next_54 ?_
  refine zj_aload_n X dJ18_next_57 rfl ?_
  refine zj_aload_n X dJ18_next_58 rfl ?_
  refine zj_iload_n X dJ18_next_59 rfl ?_
  refine zj_dup_x1 X dJ18_next_60 rfl rfl ?_
  refine zj_put X in_J18 tyJ18 tyJ18_ok nmJ18 rfl 1 (by decide) q164 (fun _ h => h) rfl (zz_up_s) rfl rfl (Nat.le_of_ble_eq_true rfl) (Or.inl (by decide)) dJ18_next_61 ?_
  refine zj_ald X ((by rw [zz_up_n hne, zz_up_n hne]; exact hb)) (rfl) (by omega) (by omega) dJ18_next_64 ?_
  rw [hv]
  exact zj_aret (r := some _) X hQ (⟨rfl, zz_up_u⟩) rfl (by first | exact Or.inl ⟨_, rfl⟩ | exact Or.inr ⟨_, rfl⟩) (by decide) (by decide) dJ18_next_65

set_option maxHeartbeats 4000000 in
theorem cj_newLength (l : Launch) (g : zz_G) (h : zz_H) {a b c0 : Nat} (hb : 1 ≤ b) (hc : a + (b + c0) ≤ 65536) : zz_C l g yJ8_newLength cJ8_newLength 4 (some .int) (zz_rm 1 20 0 0) [.int (nI a), .int (nI b), .int (nI c0)] h (fun r h' => r = some (.int (nI (a + max b c0))) ∧ h' = h) := by
  refine zz_C.of (by decide) (Nat.le_of_ble_eq_true rfl) (fun pP eE sS mM aA bB tT cC X Q hQ => ?_)
  refine zj_iload_n X dJ8_newLength_0 rfl ?_
  refine zj_iload_n X dJ8_newLength_1 rfl ?_
  refine zj_iload_n X dJ8_newLength_2 rfl ?_
  refine zj_mmax X q555 q314 q58 q315 ⟨Nat.le_of_ble_eq_true rfl, Nat.le_of_ble_eq_true rfl⟩ ⟨Nat.le_of_ble_eq_true rfl, Nat.le_of_ble_eq_true rfl⟩ dJ8_newLength_3 ?_
  refine zj_top (x' := nI (max b c0)) (by unfold zmax; rcases Nat.lt_or_ge b c0 with z | z; (rw [if_pos (nI_lt z (by omega)), Nat.max_eq_right (by omega)]); (rw [if_neg (nI_nlt z (by omega)), Nat.max_eq_left z])) ?_
  refine zj_iadd X dJ8_newLength_6 ?_
  refine zj_top (x' := nI (a + max b c0)) (nI_add _ _) ?_
  refine zj_istore_n X dJ8_newLength_7 (by decide) ?_
  refine zj_iconst (v := 0) X dJ8_newLength_8 rfl ?_
  refine zj_iload_n X dJ8_newLength_9 rfl ?_
  refine zj_icmp_ge (tgt := 21) X dJ8_newLength_10 (by decide) (fun c_10 => absurd (show nI (a + max b c0) ≤ 0 from c_10) (nI_nle (by omega) (by omega))) (fun c_10 => ?_)
  refine zj_iload_n X dJ8_newLength_13 rfl ?_
  refine zj_ldc X q556 dJ8_newLength_14 ?_
  refine zj_icmp_gt (tgt := 21) X dJ8_newLength_16 (by decide) (fun c_16 => absurd c_16 (Int32.not_lt.mpr (Int32.le_iff_toInt_le.mpr (by rw [nI_toInt (by omega)]; show _ ≤ (2147483639 : Int); omega)))) (fun c_16 => ?_)
  refine zj_iload_n X dJ8_newLength_19 rfl ?_
  exact zj_iret X hQ (⟨rfl, rfl⟩) rfl (Nat.le_of_ble_eq_true rfl) (Nat.le_of_ble_eq_true rfl) dJ8_newLength_20

set_option maxHeartbeats 4000000 in
theorem cj_copyOf2 (l : Launch) (g : zz_G) {h : zz_H} {a0 n0 N ci : Nat} {f : Nat → Option Nat} {q : vw_C} (ha : h a0 = some (eR n0 f)) (hN : n0 ≤ N) (hN2 : N ≤ 100) (hc : vwCl[ci]? = some q) (hcast : Cond.castable q.1 "java/lang/Object" ∈ lw_tbl) (hel : ∀ i : Nat, i < n0 → ∀ y : Nat, f i = some y → ∃ vs, h y = some (eO ci vs)) (hs : N ≤ 100) : zz_C l g yJ10_copyOf_2 cJ10_copyOf_2 4 (some (.array (.object "java/lang/Object"))) (zz_rm (1) (60) (1) (100)) [.ref a0, .int (nI N), .ref (gC g 258)] h (fun r h' => ∃ qn, r = some (.ref qn) ∧ h qn = none ∧ h' = zz_up h qn (eR N (va_cpy f (fun _ => none) 0 0 n0))) := by
  refine zz_C.of (by decide) (Nat.le_of_ble_eq_true rfl) (fun pP eE sS mM aA bB tT cC X Q hQ => ?_)
  refine zj_aload_n X dJ10_copyOf_2_0 rfl ?_
  refine zj_ldcM X q588 dJ10_copyOf_2_1 ?_
  refine zj_acmp_ne (rx := some _) (ry := some _) (tgt := 13) X dJ10_copyOf_2_3 (by decide) (fun c_3 => absurd rfl c_3) (fun c_3 => ?_)
  refine zj_iload_n X dJ10_copyOf_2_6 rfl ?_
  refine zj_anew (N := N) X q590 rfl (by omega) (by show 0 + 1 ≤ 1; omega) (by show 0 + N ≤ 100; omega) dJ10_copyOf_2_7 (fun qn nn => ?_)
  have hne : a0 ≠ qn := fun z => by rw [← z, ha] at nn; cases nn
  refine zj_widen (k := 1) (n := 100) (Nat.le_refl _) (by omega) ?_
  refine zj_goto (tgt := 24) X dJ10_copyOf_2_10 (by decide) ?_
  refine zj_astore_n X dJ10_copyOf_2_24 (by decide) ?_
  refine zj_aload_n X dJ10_copyOf_2_25 rfl ?_
  refine zj_iconst (v := 0) X dJ10_copyOf_2_26 rfl ?_
  refine zj_aload_n X dJ10_copyOf_2_27 rfl ?_
  refine zj_iconst (v := 0) X dJ10_copyOf_2_28 rfl ?_
  refine zj_aload_n X dJ10_copyOf_2_29 rfl ?_
  refine zj_alenR X ((show _ = _ by rw [zz_up_n hne]; exact ha)) dJ10_copyOf_2_30 ?_
  refine zj_iload_n X dJ10_copyOf_2_31 rfl ?_
  refine zj_mmin X q591 q592 q58 q593 ⟨Nat.le_of_ble_eq_true rfl, Nat.le_of_ble_eq_true rfl⟩ ⟨Nat.le_of_ble_eq_true rfl, Nat.le_of_ble_eq_true rfl⟩ dJ10_copyOf_2_32 ?_
  refine zj_top (x' := nI n0) (by unfold zmin; split; (rename_i z; have := (nI_ltI (show N < 2 ^ 31 by omega) (show n0 < 2 ^ 31 by omega)).mp z; omega); rfl) ?_
  refine zj_copy X q594 q596 q595 q60 (show _ = _ by rw [zz_up_n hne]; exact ha) zz_up_s rfl (by omega) (Nat.le_refl n0) hN hc hcast (fun i hi y hy => by obtain ⟨vs, hv⟩ := hel i hi y hy; exact ⟨vs, by rw [zz_up_n (fun z => by rw [← z, hv] at nn; cases nn)]; exact hv⟩) (by show 1 ≤ 1; omega) (by decide +kernel) dJ10_copyOf_2_35 ?_
  refine zj_aload_n X dJ10_copyOf_2_38 rfl ?_
  exact zj_aret (r := some _) X hQ (⟨qn, rfl, nn, zz_up_u⟩) rfl (by first | exact Or.inl ⟨_, rfl⟩ | exact Or.inr ⟨_, rfl⟩) (by decide) (by decide) dJ10_copyOf_2_39

set_option maxHeartbeats 4000000 in
theorem cj_copyOf (l : Launch) (g : zz_G) {h : zz_H} {a0 n0 N ci : Nat} {f : Nat → Option Nat} {q : vw_C} (ha : h a0 = some (eR n0 f)) (hN : n0 ≤ N) (hN2 : N ≤ 100) (hc : vwCl[ci]? = some q) (hcast : Cond.castable q.1 "java/lang/Object" ∈ lw_tbl) (hel : ∀ i : Nat, i < n0 → ∀ y : Nat, f i = some y → ∃ vs, h y = some (eO ci vs)) (hs : N ≤ 100) : zz_C l g yJ10_copyOf cJ10_copyOf 2 (some (.array (.object "java/lang/Object"))) (zz_rm (2) (83) (1) (100)) [.ref a0, .int (nI N)] h (fun r h' => ∃ qn, r = some (.ref qn) ∧ h qn = none ∧ h' = zz_up h qn (eR N (va_cpy f (fun _ => none) 0 0 n0))) := by
  refine zz_C.of (by decide) (Nat.le_of_ble_eq_true rfl) (fun pP eE sS mM aA bB tT cC X Q hQ => ?_)
  refine zj_aload_n X dJ10_copyOf_0 rfl ?_
  refine zj_iload_n X dJ10_copyOf_1 rfl ?_
  refine zj_aload_n X dJ10_copyOf_2 rfl ?_
  refine zj_getC X ha q563 q1451 q1450 q564 q584 (Nat.le_of_ble_eq_true rfl) (Nat.le_of_ble_eq_true rfl) dJ10_copyOf_3 ?_
  refine zj_callS (n := 3) (As := [_, _, _]) X (cj_copyOf2 l g ha hN hN2 hc hcast hel hs) ⟨by decide, by decide, by decide +kernel⟩ (lw_S q585 q586 q59 q587) ⟨Nat.le_of_ble_eq_true rfl, Nat.le_of_ble_eq_true rfl⟩ rfl rfl (Nat.le_of_ble_eq_true rfl) ⟨Nat.le_of_ble_eq_true rfl, Nat.le_of_ble_eq_true rfl⟩ dJ10_copyOf_6 (fun v_6 h_6 p_6 => ?_)
  obtain ⟨qn, rfl, nn, rfl⟩ := p_6
  exact zj_aret (r := some _) X hQ (⟨qn, rfl, nn, rfl⟩) rfl (by first | exact Or.inl ⟨_, rfl⟩ | exact Or.inr ⟨_, rfl⟩) (by decide) (by decide) dJ10_copyOf_9

