set_option maxRecDepth 100000
/-! THE LIBRARY: ArrayList.add -/
theorem zz_C.post {l : Launch} {g : zz_G} {y : MethodName} {cc : ByteArray} {maxL : Nat} {ret : Option FieldType} {rm : Room} {av : List Value} {h : zz_H} {post post' : Option Value → zz_H → Prop} (hM : zz_C l g y cc maxL ret rm av h post) (hp : ∀ v h', post v h' → post' v h') : zz_C l g y cc maxL ret rm av h post' := fun p e h1 h2 h3 s m args below h4 h5 h6 h7 => by
  obtain ⟨n, o, a, b, c, ⟨⟨⟨v, h', q1, q2, q3⟩, q4⟩, q5⟩⟩ := hM p e h1 h2 h3 s m args below h4 h5 h6 h7
  exact ⟨n, o, a, b, c, ⟨⟨⟨v, h', q1, hp v h' q2, q3⟩, q4⟩, q5⟩⟩
theorem sh_1 {c : Nat} (h : c < 101) : nI c >>> ((1 : Int32) &&& 31) = nI (c / 2) := by
  have e : (List.range 101).all (fun c => decide (nI c >>> ((1 : Int32) &&& 31) = nI (c / 2))) = true := by decide +kernel
  exact of_decide_eq_true (List.all_eq_true.mp e c (List.mem_range.mpr h))
theorem sb_1 (n : Nat) : nI (n + 1) - nI n = nI 1 := by
  rw [show nI (n + 1) = nI n + 1 from nI_succ n, show nI 1 = 1 from rfl]
  rw [Int32.add_comm, Int32.add_sub_cancel]
/-- the list has one thing more -/
def ALq (g : zz_G) (h : zz_H) (al n : Nat) (md : Int32) (ar : Nat) (f : Nat → Option Nat) (e : Nat) (h' : zz_H) : Prop := ∃ ar' cap' f', AL g h' al (n + 1) md ar' cap' f' ∧ (∀ i, i < n → f' i = f i) ∧ f' n = some e ∧ (∀ a, a ≠ al → a ≠ ar → a ≠ ar' → h' a = h a) ∧ (ar' = ar ∨ h ar' = none) ∧ al ≠ ar'
theorem cpy0 {f f1 : Nat → Option Nat} {k i : Nat} (h : i < k) : va_cpy f f1 0 0 k i = f i := by
  unfold va_cpy
  rw [if_pos (by omega)]
  congr 1
  omega

set_option maxHeartbeats 4000000 in
theorem cj_grow0 (l : Launch) (g : zz_G) {h : zz_H} {al : Nat} {md : Int32} (hA : h al = some (eO 6 [.int md, .ref (gC g 256), .int 0])) : zz_C l g yJ2_grow_2 cJ2_grow_2 4 (some (.array (.object "java/lang/Object"))) (zz_rm (1) (60) (1) (100)) [.ref al, .int 1] h (fun r h' => ∃ q, r = some (.ref q) ∧ h q = none ∧ h' = zz_up (zz_up h q (eR 10 (fun _ => none))) al (eO 6 [.int md, .ref q, .int 0])) := by
  refine zz_C.of (by decide) (Nat.le_of_ble_eq_true rfl) (fun pP eE sS mM aA bB tT cC X Q hQ => ?_)
  refine zj_aload_n X dJ2_grow_2_0 rfl ?_
  refine zj_get X in_J2 rfl 1 (by decide) q102 (fun _ h => h) hA rfl (Or.inl (by decide)) dJ2_grow_2_1 ?_
  refine zj_alen0 X dJ2_grow_2_4 ?_
  refine zj_istore_n X dJ2_grow_2_5 (by decide) ?_
  refine zj_iload_n X dJ2_grow_2_6 rfl ?_
  refine zj_if_gt (tgt := 20) X dJ2_grow_2_7 (by decide) (fun c_7 => absurd c_7 (by decide)) (fun c_7 => ?_)
  refine zj_aload_n X dJ2_grow_2_10 rfl ?_
  refine zj_get X in_J2 rfl 1 (by decide) q102 (fun _ h => h) hA rfl (Or.inl (by decide)) dJ2_grow_2_11 ?_
  refine zj_gets X X.dft q100 (fun _ h => h) dJ2_grow_2_14 ?_
  refine zj_acmp_eq (rx := some _) (ry := some _) (tgt := 45) X dJ2_grow_2_17 (by decide) (fun c_17 => ?_) (fun c_17 => absurd rfl c_17)
  refine zj_aload_n X dJ2_grow_2_45 rfl ?_
  refine zj_bipush (v := 10) X dJ2_grow_2_46 (by decide) ?_
  refine zj_iload_n X dJ2_grow_2_48 rfl ?_
  refine zj_mmax X q597 q314 q58 q315 ⟨Nat.le_of_ble_eq_true rfl, Nat.le_of_ble_eq_true rfl⟩ ⟨Nat.le_of_ble_eq_true rfl, Nat.le_of_ble_eq_true rfl⟩ dJ2_grow_2_49 ?_
  refine zj_anew (N := 10) X q598 (by decide +kernel) (by omega) (Nat.le_of_ble_eq_true rfl) (Nat.le_of_ble_eq_true rfl) dJ2_grow_2_52 (fun qn nn => ?_)
  have hne : al ≠ qn := fun z => by rw [← z, hA] at nn; cases nn
  refine zj_widen (k := 1) (n := 100) (Nat.le_refl _) (Nat.le_of_ble_eq_true rfl) ?_
  refine zj_dup_x1 X dJ2_grow_2_55 rfl rfl ?_
  refine zj_put X in_J2 tyJ2 tyJ2_ok nmJ2 rfl 1 (by decide) q102 (fun _ h => h) rfl (show _ = _ by rw [zz_up_n hne]; exact hA) rfl rfl (Nat.le_of_ble_eq_true rfl) (Or.inl (by decide)) dJ2_grow_2_56 ?_
  exact zj_aret (r := some _) X hQ (⟨qn, rfl, nn, rfl⟩) rfl (by first | exact Or.inl ⟨_, rfl⟩ | exact Or.inr ⟨_, rfl⟩) (by decide) (by decide) dJ2_grow_2_59

set_option maxHeartbeats 4000000 in
theorem cj_growA (l : Launch) (g : zz_G) {h : zz_H} {al : Nat} {md : Int32} (hA : h al = some (eO 6 [.int md, .ref (gC g 256), .int 0])) : zz_C l g yJ2_grow cJ2_grow 1 (some (.array (.object "java/lang/Object"))) (zz_rm (2) (83) (1) (100)) [.ref al] h (fun r h' => ∃ q, r = some (.ref q) ∧ h q = none ∧ h' = zz_up (zz_up h q (eR 10 (fun _ => none))) al (eO 6 [.int md, .ref q, .int 0])) := by
  refine zz_C.of (by decide) (Nat.le_of_ble_eq_true rfl) (fun pP eE sS mM aA bB tT cC X Q hQ => ?_)
  refine zj_aload_n X dJ2_grow_0 rfl ?_
  refine zj_aload_n X dJ2_grow_1 rfl ?_
  refine zj_get X in_J2 rfl 2 (by decide) q105 (fun _ h => h) hA rfl (Or.inl (by decide)) dJ2_grow_2 ?_
  refine zj_iconst (v := 1) X dJ2_grow_5 rfl ?_
  refine zj_iadd X dJ2_grow_6 ?_
  refine zj_callV (n := 1) (As := [_]) X (cj_grow0 l g hA) hA rfl rfl ⟨by decide, by decide, by decide +kernel⟩ (lw_V q548 q550 qs9 q49 q551) ⟨Nat.le_of_ble_eq_true rfl, Nat.le_of_ble_eq_true rfl⟩ rfl rfl (Nat.le_of_ble_eq_true rfl) ⟨Nat.le_of_ble_eq_true rfl, Nat.le_of_ble_eq_true rfl⟩ dJ2_grow_7 (fun v_7 h_7 p_7 => ?_)
  obtain ⟨qn, rfl, nn, rfl⟩ := p_7
  exact zj_aret (r := some _) X hQ (⟨qn, rfl, nn, rfl⟩) rfl (by first | exact Or.inl ⟨_, rfl⟩ | exact Or.inr ⟨_, rfl⟩) (by decide) (by decide) dJ2_grow_10

set_option maxHeartbeats 4000000 in
theorem cj_growC (l : Launch) (g : zz_G) {h : zz_H} {al n ar ci : Nat} {md : Int32} {f : Nat → Option Nat} {q : vw_C} (hA : h al = some (eO 6 [.int md, .ref ar, .int (nI n)])) (hb : h ar = some (eR n f)) (hn : 1 ≤ n) (hn2 : n ≤ 15) (hc : vwCl[ci]? = some q) (hcast : Cond.castable q.1 "java/lang/Object" ∈ lw_tbl) (hel : ∀ i : Nat, i < n → ∀ y : Nat, f i = some y → ∃ vs, h y = some (eO ci vs)) : zz_C l g yJ2_grow_2 cJ2_grow_2 4 (some (.array (.object "java/lang/Object"))) (zz_rm (3) (104) (1) (100)) [.ref al, .int (nI (n + 1))] h (fun r h' => ∃ q, r = some (.ref q) ∧ h q = none ∧ h' = zz_up (zz_up h q (eR (n + max 1 (n / 2)) (va_cpy f (fun _ => none) 0 0 n))) al (eO 6 [.int md, .ref q, .int (nI n)])) := by
  refine zz_C.of (by decide) (Nat.le_of_ble_eq_true rfl) (fun pP eE sS mM aA bB tT cC X Q hQ => ?_)
  refine zj_aload_n X dJ2_grow_2_0 rfl ?_
  refine zj_get X in_J2 rfl 1 (by decide) q102 (fun _ h => h) hA rfl (Or.inl (by decide)) dJ2_grow_2_1 ?_
  refine zj_alenR X (hb) dJ2_grow_2_4 ?_
  refine zj_istore_n X dJ2_grow_2_5 (by decide) ?_
  refine zj_iload_n X dJ2_grow_2_6 rfl ?_
  refine zj_if_gt (tgt := 20) X dJ2_grow_2_7 (by decide) (fun c_7 => ?_) (fun c_7 => absurd (show (0 : Int32) < nI n by rw [← nI_0]; exact nI_lt (by omega) (by omega)) c_7)
  refine zj_iload_n X dJ2_grow_2_20 rfl ?_
  refine zj_iload_n X dJ2_grow_2_21 rfl ?_
  refine zj_iload_n X dJ2_grow_2_22 rfl ?_
  refine zj_isub X dJ2_grow_2_23 ?_
  refine zj_top (x' := nI 1) (sb_1 n) ?_
  refine zj_iload_n X dJ2_grow_2_24 rfl ?_
  refine zj_iconst (v := 1) X dJ2_grow_2_25 rfl ?_
  refine zj_ishr X dJ2_grow_2_26 ?_
  refine zj_top (x' := nI (n / 2)) (sh_1 (by omega)) ?_
  refine zj_callSp (n := 3) (As := [_, _, _]) X (cj_newLength l g h (a := n) (b := 1) (c0 := n / 2) (Nat.le_refl 1) (by omega)) ⟨by decide, by decide, by decide +kernel⟩ (lw_S q552 q553 q57 q554) ⟨Nat.le_of_ble_eq_true rfl, Nat.le_of_ble_eq_true rfl⟩ rfl rfl (Nat.le_of_ble_eq_true rfl) ⟨Nat.le_of_ble_eq_true rfl, Nat.le_of_ble_eq_true rfl⟩ dJ2_grow_2_27 ?_
  refine zj_istore_n X dJ2_grow_2_30 (by decide) ?_
  refine zj_aload_n X dJ2_grow_2_31 rfl ?_
  refine zj_aload_n X dJ2_grow_2_32 rfl ?_
  refine zj_get X in_J2 rfl 1 (by decide) q102 (fun _ h => h) hA rfl (Or.inl (by decide)) dJ2_grow_2_33 ?_
  refine zj_iload_n X dJ2_grow_2_36 rfl ?_
  refine zj_callS (n := 2) (As := [_, _]) X (cj_copyOf l g hb (by omega) (by omega) hc hcast hel (by omega)) ⟨by decide, by decide, by decide +kernel⟩ (lw_S q560 q561 q59 q562) ⟨Nat.le_of_ble_eq_true rfl, Nat.le_of_ble_eq_true rfl⟩ rfl rfl (Nat.le_of_ble_eq_true rfl) ⟨Nat.le_of_ble_eq_true rfl, Nat.le_of_ble_eq_true rfl⟩ dJ2_grow_2_37 (fun v_37 h_37 p_37 => ?_)
  obtain ⟨qn, rfl, nn, rfl⟩ := p_37
  have hne : al ≠ qn := fun z => by rw [← z, hA] at nn; cases nn
  refine zj_dup_x1 X dJ2_grow_2_40 rfl rfl ?_
  refine zj_put X in_J2 tyJ2 tyJ2_ok nmJ2 rfl 1 (by decide) q102 (fun _ h => h) rfl (show _ = _ by rw [zz_up_n hne]; exact hA) rfl rfl (Nat.le_of_ble_eq_true rfl) (Or.inl (by decide)) dJ2_grow_2_41 ?_
  exact zj_aret (r := some _) X hQ (⟨qn, rfl, nn, rfl⟩) rfl (by first | exact Or.inl ⟨_, rfl⟩ | exact Or.inr ⟨_, rfl⟩) (by decide) (by decide) dJ2_grow_2_44

set_option maxHeartbeats 4000000 in
theorem cj_growB (l : Launch) (g : zz_G) {h : zz_H} {al n ar ci : Nat} {md : Int32} {f : Nat → Option Nat} {q : vw_C} (hA : h al = some (eO 6 [.int md, .ref ar, .int (nI n)])) (hb : h ar = some (eR n f)) (hn : 1 ≤ n) (hn2 : n ≤ 15) (hc : vwCl[ci]? = some q) (hcast : Cond.castable q.1 "java/lang/Object" ∈ lw_tbl) (hel : ∀ i : Nat, i < n → ∀ y : Nat, f i = some y → ∃ vs, h y = some (eO ci vs)) : zz_C l g yJ2_grow cJ2_grow 1 (some (.array (.object "java/lang/Object"))) (zz_rm (4) (127) (1) (100)) [.ref al] h (fun r h' => ∃ q, r = some (.ref q) ∧ h q = none ∧ h' = zz_up (zz_up h q (eR (n + max 1 (n / 2)) (va_cpy f (fun _ => none) 0 0 n))) al (eO 6 [.int md, .ref q, .int (nI n)])) := by
  refine zz_C.of (by decide) (Nat.le_of_ble_eq_true rfl) (fun pP eE sS mM aA bB tT cC X Q hQ => ?_)
  refine zj_aload_n X dJ2_grow_0 rfl ?_
  refine zj_aload_n X dJ2_grow_1 rfl ?_
  refine zj_get X in_J2 rfl 2 (by decide) q105 (fun _ h => h) hA rfl (Or.inl (by decide)) dJ2_grow_2 ?_
  refine zj_iconst (v := 1) X dJ2_grow_5 rfl ?_
  refine zj_iadd X dJ2_grow_6 ?_
  refine zj_top (x' := nI (n + 1)) (nI_1 n) ?_
  refine zj_callV (n := 1) (As := [_]) X (cj_growC l g hA hb hn hn2 hc hcast hel) hA rfl rfl ⟨by decide, by decide, by decide +kernel⟩ (lw_V q548 q550 qs9 q49 q551) ⟨Nat.le_of_ble_eq_true rfl, Nat.le_of_ble_eq_true rfl⟩ rfl rfl (Nat.le_of_ble_eq_true rfl) ⟨Nat.le_of_ble_eq_true rfl, Nat.le_of_ble_eq_true rfl⟩ dJ2_grow_7 (fun v_7 h_7 p_7 => ?_)
  obtain ⟨qn, rfl, nn, rfl⟩ := p_7
  exact zj_aret (r := some _) X hQ (⟨qn, rfl, nn, rfl⟩) rfl (by first | exact Or.inl ⟨_, rfl⟩ | exact Or.inr ⟨_, rfl⟩) (by decide) (by decide) dJ2_grow_10

set_option maxHeartbeats 4000000 in
theorem cj_addA (l : Launch) (g : zz_G) {h : zz_H} {al : Nat} {md : Int32} (hA : h al = some (eO 6 [.int md, .ref (gC g 256), .int 0])) {ci : Nat} {q : vw_C} (hc : vwCl[ci]? = some q) (hcast : Cond.castable q.1 "java/lang/Object" ∈ lw_tbl) {e : Nat} {vs : List Value} (he : h e = some (eO ci vs)) (hea : e ≠ al) : zz_C l g yJ2_add_2 cJ2_add_2 4 none (zz_rm (6) (400) (1) (100)) [.ref al, .ref e, .ref (gC g 256), .int 0] h (fun r h' => r = none ∧ ALq g h al 0 md (gC g 256) (fun _ => none) e h') := by
  refine zz_C.of (by decide) (Nat.le_of_ble_eq_true rfl) (fun pP eE sS mM aA bB tT cC X Q hQ => ?_)
  refine zj_iload_n X dJ2_add_2_0 rfl ?_
  refine zj_aload_n X dJ2_add_2_1 rfl ?_
  refine zj_alen0 X dJ2_add_2_2 ?_
  refine zj_icmp_ne (tgt := 11) X dJ2_add_2_3 (by decide) (fun c_3 => absurd rfl c_3) (fun c_3 => ?_)
  refine zj_aload_n X dJ2_add_2_6 rfl ?_
  refine zj_callV (n := 0) (As := []) X (cj_growA l g hA) hA rfl rfl ⟨by decide, by decide, by decide +kernel⟩ (lw_V q544 q546 qs8 q49 q547) ⟨Nat.le_of_ble_eq_true rfl, Nat.le_of_ble_eq_true rfl⟩ rfl rfl (Nat.le_of_ble_eq_true rfl) ⟨Nat.le_of_ble_eq_true rfl, Nat.le_of_ble_eq_true rfl⟩ dJ2_add_2_7 (fun v_7 h_7 p_7 => ?_)
  obtain ⟨qn, rfl, nn, rfl⟩ := p_7
  have hne : al ≠ qn := fun z => by rw [← z, hA] at nn; cases nn
  have heq : e ≠ qn := fun z => by rw [← z, he] at nn; cases nn
  
  refine zj_astore_n X dJ2_add_2_10 (by decide) ?_
  refine zj_aload_n X dJ2_add_2_11 rfl ?_
  refine zj_iload_n X dJ2_add_2_12 rfl ?_
  refine zj_aload_n X dJ2_add_2_13 rfl ?_
  refine zj_ast X ((show _ = _ by rw [zz_up_n (Ne.symm hne)]; exact zz_up_s)) (show _ = _ by rw [zz_up_n hea, zz_up_n heq]; exact he) hc (X.W.1.2.1 _ hcast rfl) (i := 0) (j := 0) rfl (by omega) (by omega) dJ2_add_2_14 ?_
  refine zj_aload_n X dJ2_add_2_15 rfl ?_
  refine zj_iload_n X dJ2_add_2_16 rfl ?_
  refine zj_iconst (v := 1) X dJ2_add_2_17 rfl ?_
  refine zj_iadd X dJ2_add_2_18 ?_
  refine zj_put X in_J2 tyJ2 tyJ2_ok nmJ2 rfl 2 (by decide) q105 (fun _ h => h) rfl (show _ = _ by rw [zz_up_n hne]; exact zz_up_s) rfl rfl (Nat.le_of_ble_eq_true rfl) (Or.inl (by decide)) dJ2_add_2_19 ?_
  exact zj_vret X hQ (⟨rfl, qn, 10, _, ⟨zz_up_s, by omega, by omega, Or.inr ⟨by omega, by omega, by rw [zz_up_n (Ne.symm hne)]; exact zz_up_s⟩⟩, fun i hi => by omega, va_up_self _ _ _, fun a h1 h2 h3 => by rw [zz_up_n h1, zz_up_n h3, zz_up_n h1, zz_up_n h3], Or.inr nn, hne⟩) rfl (Nat.le_of_ble_eq_true rfl) (Nat.le_of_ble_eq_true rfl) dJ2_add_2_22

set_option maxHeartbeats 4000000 in
theorem cj_addB (l : Launch) (g : zz_G) {h : zz_H} {al n ar ci : Nat} {md : Int32} {f : Nat → Option Nat} {q : vw_C} (hA : h al = some (eO 6 [.int md, .ref ar, .int (nI n)])) (hb : h ar = some (eR n f)) (hn : 1 ≤ n) (hn2 : n ≤ 15) (hc : vwCl[ci]? = some q) (hcast : Cond.castable q.1 "java/lang/Object" ∈ lw_tbl) (hel : ∀ i : Nat, i < n → ∀ y : Nat, f i = some y → ∃ vs, h y = some (eO ci vs)) {e : Nat} {vs : List Value} (he : h e = some (eO ci vs)) (hea : e ≠ al) : zz_C l g yJ2_add_2 cJ2_add_2 4 none (zz_rm (6) (400) (1) (100)) [.ref al, .ref e, .ref ar, .int (nI n)] h (fun r h' => r = none ∧ ALq g h al n md ar f e h') := by
  refine zz_C.of (by decide) (Nat.le_of_ble_eq_true rfl) (fun pP eE sS mM aA bB tT cC X Q hQ => ?_)
  refine zj_iload_n X dJ2_add_2_0 rfl ?_
  refine zj_aload_n X dJ2_add_2_1 rfl ?_
  refine zj_alenR X (hb) dJ2_add_2_2 ?_
  refine zj_icmp_ne (tgt := 11) X dJ2_add_2_3 (by decide) (fun c_3 => absurd rfl c_3) (fun c_3 => ?_)
  refine zj_aload_n X dJ2_add_2_6 rfl ?_
  refine zj_callV (n := 0) (As := []) X (cj_growB l g hA hb hn hn2 hc hcast hel) hA rfl rfl ⟨by decide, by decide, by decide +kernel⟩ (lw_V q544 q546 qs8 q49 q547) ⟨Nat.le_of_ble_eq_true rfl, Nat.le_of_ble_eq_true rfl⟩ rfl rfl (Nat.le_of_ble_eq_true rfl) ⟨Nat.le_of_ble_eq_true rfl, Nat.le_of_ble_eq_true rfl⟩ dJ2_add_2_7 (fun v_7 h_7 p_7 => ?_)
  obtain ⟨qn, rfl, nn, rfl⟩ := p_7
  have hne : al ≠ qn := fun z => by rw [← z, hA] at nn; cases nn
  have heq : e ≠ qn := fun z => by rw [← z, he] at nn; cases nn
  refine zj_astore_n X dJ2_add_2_10 (by decide) ?_
  refine zj_aload_n X dJ2_add_2_11 rfl ?_
  refine zj_iload_n X dJ2_add_2_12 rfl ?_
  refine zj_aload_n X dJ2_add_2_13 rfl ?_
  refine zj_ast X ((show _ = _ by rw [zz_up_n (Ne.symm hne)]; exact zz_up_s)) (show _ = _ by rw [zz_up_n hea, zz_up_n heq]; exact he) hc (X.W.1.2.1 _ hcast rfl) (i := nI n) (j := n) rfl (by omega) (by omega) dJ2_add_2_14 ?_
  refine zj_aload_n X dJ2_add_2_15 rfl ?_
  refine zj_iload_n X dJ2_add_2_16 rfl ?_
  refine zj_iconst (v := 1) X dJ2_add_2_17 rfl ?_
  refine zj_iadd X dJ2_add_2_18 ?_
  refine zj_top (x' := nI (n + 1)) (nI_1 n) ?_
  refine zj_put X in_J2 tyJ2 tyJ2_ok nmJ2 rfl 2 (by decide) q105 (fun _ h => h) rfl (show _ = _ by rw [zz_up_n hne]; exact zz_up_s) rfl rfl (Nat.le_of_ble_eq_true rfl) (Or.inl (by decide)) dJ2_add_2_19 ?_
  exact zj_vret X hQ (⟨rfl, qn, n + max 1 (n / 2), _, ⟨zz_up_s, by omega, by omega, Or.inr ⟨by omega, by omega, by rw [zz_up_n (Ne.symm hne)]; exact zz_up_s⟩⟩, fun i hi => by rw [va_up_ne _ _ (by omega), cpy0 hi], va_up_self _ _ _, fun a h1 h2 h3 => by rw [zz_up_n h1, zz_up_n h3, zz_up_n h1, zz_up_n h3], Or.inr nn, hne⟩) rfl (Nat.le_of_ble_eq_true rfl) (Nat.le_of_ble_eq_true rfl) dJ2_add_2_22

set_option maxHeartbeats 4000000 in
theorem cj_addC (l : Launch) (g : zz_G) {h : zz_H} {al n ar cap : Nat} {md : Int32} {f : Nat → Option Nat} (hA : h al = some (eO 6 [.int md, .ref ar, .int (nI n)])) (hb : h ar = some (eR cap f)) (hn : n < cap) (hn2 : n ≤ 15) (hcap : cap ≤ 100) {ci : Nat} {q : vw_C} (hc : vwCl[ci]? = some q) (hcast : Cond.castable q.1 "java/lang/Object" ∈ lw_tbl) {e : Nat} {vs : List Value} (he : h e = some (eO ci vs)) (hea : e ≠ al) : zz_C l g yJ2_add_2 cJ2_add_2 4 none (zz_rm (6) (400) (1) (100)) [.ref al, .ref e, .ref ar, .int (nI n)] h (fun r h' => r = none ∧ ALq g h al n md ar f e h') := by
  refine zz_C.of (by decide) (Nat.le_of_ble_eq_true rfl) (fun pP eE sS mM aA bB tT cC X Q hQ => ?_)
  have hne : al ≠ ar := fun z => by rw [← z, hA] at hb; cases hb
  refine zj_iload_n X dJ2_add_2_0 rfl ?_
  refine zj_aload_n X dJ2_add_2_1 rfl ?_
  refine zj_alenR X (hb) dJ2_add_2_2 ?_
  refine zj_icmp_ne (tgt := 11) X dJ2_add_2_3 (by decide) (fun c_3 => ?_) (fun c_3 => absurd ((nI_eq (by omega) (by omega)).mp c_3) (by omega))
  refine zj_aload_n X dJ2_add_2_11 rfl ?_
  refine zj_iload_n X dJ2_add_2_12 rfl ?_
  refine zj_aload_n X dJ2_add_2_13 rfl ?_
  refine zj_ast X (hb) (he) hc (X.W.1.2.1 _ hcast rfl) (i := nI n) (j := n) rfl hn (by omega) dJ2_add_2_14 ?_
  refine zj_aload_n X dJ2_add_2_15 rfl ?_
  refine zj_iload_n X dJ2_add_2_16 rfl ?_
  refine zj_iconst (v := 1) X dJ2_add_2_17 rfl ?_
  refine zj_iadd X dJ2_add_2_18 ?_
  refine zj_top (x' := nI (n + 1)) (nI_1 n) ?_
  refine zj_put X in_J2 tyJ2 tyJ2_ok nmJ2 rfl 2 (by decide) q105 (fun _ h => h) rfl (show _ = _ by rw [zz_up_n hne]; exact hA) rfl rfl (Nat.le_of_ble_eq_true rfl) (Or.inl (by decide)) dJ2_add_2_19 ?_
  exact zj_vret X hQ (⟨rfl, ar, cap, _, ⟨zz_up_s, by omega, by omega, Or.inr ⟨by omega, by omega, by rw [zz_up_n (Ne.symm hne)]; exact zz_up_s⟩⟩, fun i hi => va_up_ne _ _ (by omega), va_up_self _ _ _, fun a h1 h2 h3 => by rw [zz_up_n h1, zz_up_n h2], Or.inl rfl, hne⟩) rfl (Nat.le_of_ble_eq_true rfl) (Nat.le_of_ble_eq_true rfl) dJ2_add_2_22

theorem cj_add2 (l : Launch) (g : zz_G) {h : zz_H} {al n : Nat} {md : Int32} {ar cap : Nat} {f : Nat → Option Nat} (hA : AL g h al n md ar cap f) (hn : n < 16) {ci : Nat} {q : vw_C} (hc : vwCl[ci]? = some q) (hcast : Cond.castable q.1 "java/lang/Object" ∈ lw_tbl) (hel : ∀ i : Nat, i < n → ∀ y : Nat, f i = some y → ∃ vs, h y = some (eO ci vs)) {e : Nat} {vs : List Value} (he : h e = some (eO ci vs)) (hea : e ≠ al) : zz_C l g yJ2_add_2 cJ2_add_2 4 none (zz_rm 6 400 1 100) [.ref al, .ref e, .ref ar, .int (nI n)] h (fun r h' => r = none ∧ ALq g h al n md ar f e h') := by
  obtain ⟨h1, h2, h3, h4⟩ := hA
  rcases h4 with ⟨rfl, rfl, rfl⟩ | ⟨g1, g2, g3⟩
  · refine zz_C.post (cj_addA l g h1 hc hcast he hea) (fun r h' hp => ⟨hp.1, ?_⟩)
    obtain ⟨ar', cap', f', q1, q2, q3, q4, q5, q6⟩ := hp.2
    exact ⟨ar', cap', f', q1, fun i hi => absurd hi (Nat.not_lt_zero i), q3, q4, q5, q6⟩
  · rcases Nat.lt_or_eq_of_le g2 with z | z
    · exact zz_C.post (cj_addC l g h1 g3 z (by omega) h3 hc hcast he hea) (fun r h' hp => hp)
    · subst z
      exact zz_C.post (cj_addB l g h1 g3 g1 (by omega) hc hcast hel he hea) (fun r h' hp => hp)

set_option maxHeartbeats 4000000 in
theorem cj_add (l : Launch) (g : zz_G) {h : zz_H} {al n : Nat} {md : Int32} {ar cap : Nat} {f : Nat → Option Nat} (hA : AL g h al n md ar cap f) (hn : n < 16) {ci : Nat} {q : vw_C} (hc : vwCl[ci]? = some q) (hcast : Cond.castable q.1 "java/lang/Object" ∈ lw_tbl) (hel : ∀ i : Nat, i < n → ∀ y : Nat, f i = some y → y ≠ al ∧ ∃ vs, h y = some (eO ci vs)) {e : Nat} {vs : List Value} (he : h e = some (eO ci vs)) (hea : e ≠ al) : zz_C l g yJ2_add cJ2_add 2 (some .boolean) (zz_rm (7) (423) (1) (100)) [.ref al, .ref e] h (fun r h' => r = some (.int 1) ∧ ALq g h al n (md + 1) ar f e h') := by
  refine zz_C.of (by decide) (Nat.le_of_ble_eq_true rfl) (fun pP eE sS mM aA bB tT cC X Q hQ => ?_)
  refine zj_aload_n X dJ2_add_0 rfl ?_
  refine zj_dup X dJ2_add_1 rfl ?_
  refine zj_get X in_J2 rfl 0 (by decide) q109 (fun _ h => u_same (X.ts _ q108) _ h) hA.1 rfl (Or.inl (by decide)) dJ2_add_2 ?_
  refine zj_iconst (v := 1) X dJ2_add_5 rfl ?_
  refine zj_iadd X dJ2_add_6 ?_
  refine zj_put X in_J2 tyJ2 tyJ2_ok nmJ2 rfl 0 (by decide) q109 (fun _ h => u_same (X.ts _ q108) _ h) rfl hA.1 rfl rfl (Nat.le_of_ble_eq_true rfl) (Or.inl (by decide)) dJ2_add_7 ?_
  have hA2 : AL g (zz_up h al (eO 6 [.int (md + 1), .ref ar, .int (nI n)])) al n (md + 1) ar cap f := by
    obtain ⟨h1, h2, h3, h4⟩ := hA
    refine ⟨zz_up_s, h2, h3, h4.imp id (fun ⟨z1, z2, z3⟩ => ⟨z1, z2, ?_⟩)⟩
    rw [zz_up_n (fun z => by rw [z, h1] at z3; cases z3)]; exact z3
  refine zj_aload_n X dJ2_add_10 rfl ?_
  refine zj_aload_n X dJ2_add_11 rfl ?_
  refine zj_aload_n X dJ2_add_12 rfl ?_
  refine zj_get X in_J2 rfl 1 (by decide) q102 (fun _ h => h) zz_up_s rfl (Or.inl (by decide)) dJ2_add_13 ?_
  refine zj_aload_n X dJ2_add_16 rfl ?_
  refine zj_get X in_J2 rfl 2 (by decide) q105 (fun _ h => h) zz_up_s rfl (Or.inl (by decide)) dJ2_add_17 ?_
  refine zj_callV (n := 3) (As := [_, _, _]) X (cj_add2 l g hA2 hn hc hcast (fun i hi y hy => by obtain ⟨z1, vs, z2⟩ := hel i hi y hy; exact ⟨vs, by rw [zz_up_n z1]; exact z2⟩) (show _ = _ by rw [zz_up_n hea]; exact he) hea) zz_up_s rfl rfl ⟨by decide, by decide, by decide +kernel⟩ (lw_V q540 q542 qs7 q49 q543) ⟨Nat.le_of_ble_eq_true rfl, Nat.le_of_ble_eq_true rfl⟩ rfl rfl (Nat.le_of_ble_eq_true rfl) ⟨Nat.le_of_ble_eq_true rfl, Nat.le_of_ble_eq_true rfl⟩ dJ2_add_20 (fun v_20 h_20 p_20 => ?_)
  obtain ⟨rfl, ar', cap', f', q1, q2, q3, q4, q5, q6⟩ := p_20
  refine zj_iconst (v := 1) X dJ2_add_23 rfl ?_
  exact zj_zret X hQ (⟨rfl, ar', cap', f', q1, q2, q3, fun a h1 h2 h3 => by rw [q4 a h1 h2 h3, zz_up_n h1], q5.imp id (fun z => by rwa [zz_up_n (Ne.symm q6)] at z), q6⟩) rfl (by decide) (Nat.le_of_ble_eq_true rfl) (Nat.le_of_ble_eq_true rfl) dJ2_add_24

