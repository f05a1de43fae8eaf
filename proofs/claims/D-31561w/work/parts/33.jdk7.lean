set_option maxRecDepth 100000
/-! THE LIBRARY: the values of a TreeMap, one after the other -/
section ZV
variable {p : Program} {l : Launch} {e : Env} {R : Room} {s : State} {m : MethodId} {args : Array Value} {below : List Frame} {meth : Method} {c : Code} {g : zz_G} {y : MethodName} {cc : ByteArray} {nL : Nat} {ret : Option FieldType} {Q : State → Prop} {h : zz_H} {mc ms pc : Nat} {lo : List (Nat × Value)} {rest : List Value}
theorem zz_c11 {g : zz_G} {q a b : Nat} {H : Heap} (h1 : zz_cell g q (eO 11 [.ref a]) H) (h2 : zz_cell g q (eO 11 [.ref b]) H) : a = b := by
  obtain ⟨r, e1, cell, q1, -, -, q4⟩ := h1
  obtain ⟨r', e2, cell', p1, -, -, p4⟩ := h2
  cases e1.symm.trans e2
  cases q1.symm.trans p1
  have e1 : r = (RJ22, TJ22, 1) := (Option.some.inj e1).symm
  have h3 := (q4 0 (by rw [e1]; decide)).symm.trans (p4 0 (by rw [e1]; decide))
  exact Value.ref.inj (Option.some.inj h3)
/-- a map's values that it keeps come into the picture -/
theorem zz_R.val {g : zz_G} {H : Heap} {h : zz_H} {t q : Nat} (hR : zz_R g H h) (hq : h q = none ∨ h q = some (eO 11 [.ref t])) (hc : zz_cell g q (eO 11 [.ref t]) H) (hz : gZ g ≤ q) : zz_R g H (zz_up h q (eO 11 [.ref t])) := by
  intro b x hb
  by_cases hbq : b = q
  · subst hbq
    rw [zz_up_s] at hb
    cases hb
    exact ⟨hc, hz⟩
  · rw [zz_up_n hbq] at hb
    obtain ⟨h1, h2⟩ := hR b x hb
    refine ⟨?_, h2⟩
    unfold zz_at at h1 ⊢
    split at h1
    · obtain ⟨v, h3, h4⟩ := h1
      refine ⟨v, h3, ?_⟩
      rcases h4 with h4 | ⟨q2, q1, q3, q4, q5⟩
      · exact Or.inl h4
      · refine Or.inr ⟨q2, q1, ?_, q4, q5⟩
        by_cases hqq : q2 = q
        · subst hqq
          rw [zz_up_s, zz_c11 hc q4]
          exact Or.inr rfl
        · rw [zz_up_n hqq]
          exact q3
    · exact h1
theorem zj_getV (X : zz_X l g y cc nL ret p s m args meth c) {t index : Nat} {ref : String} {fs : List Value} (ha : h t = some (eO 8 fs)) (hl9 : fs.length = 9) (hlink : Cond.fieldLink y.cls index ref (TJ17 1).2.1 (TJ17 1).2.2.1 ∈ lw_all) (hsame : ∀ x, s.fieldFound? (TJ17 1).1 (TJ17 1).2.1 (TJ17 1).2.2.1 = some x → s.fieldFound? ref (TJ17 1).2.1 (TJ17 1).2.2.1 = some x) (hdg : decode cc pc = .ok (.getfield index, 3)) (kn : zz_J p l e R s m args below meth c g nL Q h mc ms (pc + 3) lo (.null :: rest)) (kq : ∀ q : Nat, h q = none ∨ h q = some (eO 11 [.ref t]) → zz_J p l e R s m args below meth c g nL Q (zz_up h q (eO 11 [.ref t])) mc ms (pc + 3) lo (.ref q :: rest)) : zz_J p l e R s m args below meth c g nL Q h mc ms pc lo (.ref t :: rest) := fun H locs ls hR hS hl => by
  obtain ⟨fs', h1, -, hlen, -, heq⟩ := hR.obj ha
  obtain ⟨v, hv, hV⟩ := heq rfl
  have hf : fs'[1]? = some v := by rw [hv]; exact List.getElem?_set_self (by omega)
  refine va_get (ws := [(t, .inr (8, fs'))]) (v := v) X.1 X.2.1 X.ts in_J17 X.own X.K (fun k q hq => by match k, hq with | 0, hq => cases hq; exact h1 | k + 1, hq => cases hq) 0 rfl (C := RJ17) (T := TJ17) (N := 9) rfl 1 (by decide) (X.ts _ hlink) hsame hf hdg ?_
  rcases hV with rfl | ⟨q, rfl, q1, q2, q3⟩
  · exact kn H locs ls hR hS hl
  · exact kq q q1 H locs ls (hR.val q1 q2 q3) hS hl
theorem zj_putV (X : zz_X l g y cc nL ret p s m args meth c) {t q index : Nat} {ref : String} {fs : List Value} (ha : h t = some (eO 8 fs)) (hl9 : fs.length = 9) (hq : h q = some (eO 11 [.ref t])) (hlink : Cond.fieldLink y.cls index ref (TJ17 1).2.1 (TJ17 1).2.2.1 ∈ lw_all) (hsame : ∀ x, s.fieldFound? (TJ17 1).1 (TJ17 1).2.1 (TJ17 1).2.2.1 = some x → s.fieldFound? ref (TJ17 1).2.1 (TJ17 1).2.2.1 = some x) (hdg : decode cc pc = .ok (.putfield index, 3)) (kk : zz_J p l e R s m args below meth c g nL Q h mc ms (pc + 3) lo rest) : zz_J p l e R s m args below meth c g nL Q h mc ms pc lo (.ref q :: .ref t :: rest) := fun H locs ls hR hS hl => by
  have hts := X.ts
  have hown := X.own
  have hK := X.K
  have hc : vwCl[8]? = some (RJ17, TJ17, 9) := rfl
  obtain ⟨fs', hcell, hfs, hlen, hne, heq⟩ := hR.obj ha
  obtain ⟨w, hw, -⟩ := heq rfl
  have hA : gF g t := (hR t _ ha).2
  have hap := va_apart (own := y.cls) hts in_J17 tyJ17 tyJ17_ok nmJ17 hK hc
  obtain ⟨r, h1, cell, q1, q2, q3, q4⟩ := hcell
  have hr : r = (RJ17, TJ17, 9) := Option.some.inj (h1.symm.trans hc)
  subst hr
  obtain ⟨hSl, hfc, kC, hkC, hkind⟩ := hK.1 8 _ hc
  obtain ⟨cf, kf, fi, f, hi, hsl⟩ := hSl 1 (by decide)
  have hlay := hts _ (in_J17 _ (u_in_lay (k := 1) (by decide)))
  unfold u_lay at hlay
  rw [if_neg (by decide)] at hlay
  have hst := (u_facts hfc hkC (u_lays hts in_J17 (show 1 < 9 by decide)) hi).1
  have h6 := u_store hfc hkC hkind hlay hi (tyJ17_ok 1 (by decide)) (show narrow (tyJ17 1) (.ref q) = .ref q from rfl) (show fits (tyJ17 1) (.ref q) = true from rfl)
  refine W.putK X.1 X.2.1 (f := f) ⟨hown, hts _ hlink, ⟨_, _, _, hsame _ hi⟩, hst⟩ (by rw [q2]; exact h6) q1 q3 (by rw [hsl]; exact k2_hasslot (q4 1 (by decide))) rfl rfl hdg fun H' e1 e2 e3 => ?_
  rw [hsl] at e1 ⊢
  have hqt : q ≠ t := fun z => by rw [z, ha] at hq; cases hq
  have hup : zz_up h t (eO 8 fs) = h := by
    funext z
    by_cases hz : z = t
    · rw [hz, zz_up_s, ha]
    · rw [zz_up_n hz]
  have hcq : zz_cell g q (eO 11 [.ref t]) H := (hR q _ hq).1
  have hR' : zz_R g H' (zz_up h t (eO 8 fs)) := by
    refine hR.set ha (fun _ z => by cases z) e3 ⟨.ref q, ?_, Or.inr ⟨q, rfl, Or.inr (by rw [hup]; exact hq), hcq.kept (e3 q hqt), (hR q _ hq).2⟩⟩
    have h9 : zz_cell g t (eO 8 (fs'.set 1 (.ref q))) H' := ⟨_, hc, t_OB.to (V := updV (vp_V fs') 1 (.ref q)) ⟨_, e1, q2, q3, t_set q4 hap (by decide) (.ref q)⟩ (fun j _ => vp_updV_set (by rw [hlen]; omega) (.ref q) j)⟩
    rw [hw, List.set_set] at h9
    exact h9
  rw [hup] at hR'
  exact kk H' _ ls hR' (hS.put e2 e3 hA) hl
end ZV
theorem tNx_u {K : Nat → Bool} {i : Nat} {o o' : Option Nat} (h : tNx K i o) (h' : tNx K i o') : o = o' := by
  cases o with
  | none =>
    cases o' with
    | none => rfl
    | some k => have := h.1 rfl k (h'.2 k rfl).2.1; rw [(h'.2 k rfl).1] at this; cases this
  | some j =>
    cases o' with
    | none => have := h'.1 rfl j (h.2 j rfl).2.1; rw [(h.2 j rfl).1] at this; cases this
    | some k =>
      obtain ⟨a1, a2, a3⟩ := h.2 j rfl
      obtain ⟨b1, b2, b3⟩ := h'.2 k rfl
      rcases Nat.lt_trichotomy j k with z | z | z
      · rw [b3 j a2 z] at a1; cases a1
      · rw [z]
      · rw [a3 k b2 z] at b1; cases b1
/-- another cell is there too -/
theorem TM.re {g : zz_G} {h0 h : zz_H} {t : Nat} {K : Nat → Bool} {N V : Nat → Nat} {L R P : Nat → Option Nat} {C : Nat → Bool} {ro : Option Nat} {sz : Nat} {md : Int32} (hT : TM g h0 h t K N V L R P C ro sz md) {q : Nat} {e : zz_E} (hq : ∀ x, h q = some x → x = e) : TM g (zz_up h q e) (zz_up h q e) t K N V L R P C ro sz md := by
  have key : ∀ a x, h a = some x → zz_up h q e a = some x := fun a x hx => by
    by_cases z : a = q
    · rw [z] at hx ⊢
      rw [zz_up_s, hq x hx]
    · rw [zz_up_n z, hx]
  exact ⟨key _ _ hT.1, fun k hk => key _ _ (hT.2.1 k hk), hT.2.2.1, fun _ _ _ => rfl⟩
theorem hq0 {h : zz_H} {q : Nat} {e : zz_E} (n : h q = none) : ∀ x, h q = some x → x = e := fun x hx => by rw [n] at hx; cases hx

set_option maxHeartbeats 4000000 in
theorem cj_Values (l : Launch) (g : zz_G) {h : zz_H} {q t : Nat} (ha : h q = some (eO 11 [.null])) : zz_C l g yJ22_init cJ22_init 2 none (zz_rm 2 40 0 0) [.ref q, .ref t] h (fun r h' => r = none ∧ h' = zz_up h q (eO 11 [.ref t])) := by
  refine zz_C.of (by decide) (Nat.le_of_ble_eq_true rfl) (fun pP eE sS mM aA bB tT cC X Q hQ => ?_)
  refine zj_aload_n X dJ22_init_0 rfl ?_
  refine zj_aload_n X dJ22_init_1 rfl ?_
  refine zj_putG X in_J22 tyJ22 tyJ22_ok nmJ22 rfl 0 (by decide) q364 (fun _ h => h) rfl rfl rfl ha rfl rfl (Nat.le_of_ble_eq_true rfl) (Or.inl (by decide)) (Or.inr (fun b z => by cases z)) dJ22_init_2 ?_
  refine zj_aload_n X dJ22_init_5 rfl ?_
  refine zj_callI (n := 0) (As := []) X (cj_AbstractCollection l g _ _) ⟨by decide, by decide, by decide +kernel⟩ rfl q98 q47 q363 q97 ⟨Nat.le_of_ble_eq_true rfl, Nat.le_of_ble_eq_true rfl⟩ rfl rfl (Nat.le_of_ble_eq_true rfl) ⟨Nat.le_of_ble_eq_true rfl, Nat.le_of_ble_eq_true rfl⟩ dJ22_init_6 (fun v_6 h_6 p_6 => ?_)
  obtain ⟨rfl, rfl⟩ := p_6
  exact zj_vret X hQ (⟨rfl, rfl⟩) rfl (Nat.le_of_ble_eq_true rfl) (Nat.le_of_ble_eq_true rfl) dJ22_init_9

set_option maxHeartbeats 4000000 in
theorem cj_values (l : Launch) (g : zz_G) {h : zz_H} {t : Nat} {fs : List Value} (ha : h t = some (eO 8 fs)) (hl9 : fs.length = 9) : zz_C l g yJ17_values cJ17_values 2 (some (.object "java/util/Collection")) (zz_rm (3) (61) (1) (1)) [.ref t] h (fun r h' => ∃ q, r = some (.ref q) ∧ (h q = none ∨ h q = some (eO 11 [.ref t])) ∧ h' = zz_up h q (eO 11 [.ref t])) := by
  refine zz_C.of (by decide) (Nat.le_of_ble_eq_true rfl) (fun pP eE sS mM aA bB tT cC X Q hQ => ?_)
  refine zj_aload_n X dJ17_values_0 rfl ?_
  refine zj_getV X ha hl9 q680 (fun _ h => u_same (X.ts _ q681) _ h) dJ17_values_1 ?_ (fun q hq => ?_)
  · refine zj_astore_nN X dJ17_values_4 (by decide) ?_
    refine zj_aload_nN X dJ17_values_5 rfl ?_
    refine zj_ifnonnull (r := none) (tgt := 23) X dJ17_values_6 (by decide) (fun a c => by cases c) (fun c_6 => ?_)
    refine zj_new (fs := [.null]) (ci := 11) X in_J22 tyJ22 tyJ22_ok rfl q358 q359 q74 (by decide) (Or.inr (by decide)) (Nat.le_of_ble_eq_true rfl) (Nat.le_of_ble_eq_true rfl) dJ17_values_9 (fun q_9 n_9 => ?_)
    refine zj_dup X dJ17_values_12 rfl ?_
    refine zj_aload_n X dJ17_values_13 rfl ?_
    refine zj_callI (n := 1) (As := [_]) X (cj_Values l g zz_up_s) ⟨by decide, by decide, by decide +kernel⟩ rfl q362 q74 q360 q361 ⟨Nat.le_of_ble_eq_true rfl, Nat.le_of_ble_eq_true rfl⟩ rfl rfl (Nat.le_of_ble_eq_true rfl) ⟨Nat.le_of_ble_eq_true rfl, Nat.le_of_ble_eq_true rfl⟩ dJ17_values_14 (fun v_14 h_14 p_14 => ?_)
    obtain ⟨rfl, rfl⟩ := p_14
    rw [zz_up_u]
    have hne : t ≠ q_9 := fun z => by rw [← z, ha] at n_9; cases n_9
    refine zj_astore_n X dJ17_values_17 (by decide) ?_
    refine zj_aload_n X dJ17_values_18 rfl ?_
    refine zj_aload_n X dJ17_values_19 rfl ?_
    refine zj_putV X (show _ = _ by rw [zz_up_n hne]; exact ha) hl9 zz_up_s q680 (fun _ h => u_same (X.ts _ q681) _ h) dJ17_values_20 ?_
    refine zj_aload_n X dJ17_values_23 rfl ?_
    exact zj_aret (r := some _) X hQ (⟨q_9, rfl, Or.inl n_9, rfl⟩) rfl (by first | exact Or.inl ⟨_, rfl⟩ | exact Or.inr ⟨_, rfl⟩) (by decide) (by decide) dJ17_values_24
  · refine zj_astore_n X dJ17_values_4 (by decide) ?_
    refine zj_aload_n X dJ17_values_5 rfl ?_
    refine zj_ifnonnull (r := some _) (tgt := 23) X dJ17_values_6 (by decide) (fun a_6 c_6 => ?_) (fun c => by cases c)
    refine zj_aload_n X dJ17_values_23 rfl ?_
    exact zj_aret (r := some _) X hQ (⟨q, rfl, hq, rfl⟩) rfl (by first | exact Or.inl ⟨_, rfl⟩ | exact Or.inr ⟨_, rfl⟩) (by decide) (by decide) dJ17_values_24

set_option maxHeartbeats 4000000 in
theorem cj_first (l : Launch) (g : zz_G) {h0 h : zz_H} {t : Nat} {K : Nat → Bool} {N V : Nat → Nat} {L R P : Nat → Option Nat} {C : Nat → Bool} {ro : Option Nat} {sz : Nat} {md : Int32} (hT : TM g h0 h t K N V L R P C ro sz md) {lo hi : Nat → Nat} (hW : tW K ro L R P lo hi) {o : Option Nat} (ho : tNx K 0 o) : zz_C l g yJ17_getFirstEntry cJ17_getFirstEntry 2 (some (.object "java/util/TreeMap$Entry")) (zz_rm 1 20 0 0) [.ref t] h (fun r h' => r = some (rN N o) ∧ h' = h) := by
  refine zz_C.of (by decide) (Nat.le_of_ble_eq_true rfl) (fun pP eE sS mM aA bB tT cC X Q hQ => ?_)
  refine zj_aload_n X dJ17_getFirstEntry_0 rfl ?_
  refine zj_get X in_J17 rfl 3 (by decide) q676 (fun _ h => h) (hT.o) rfl (Or.inr (by decide)) dJ17_getFirstEntry_1 ?_
  refine zj_astore_nq X dJ17_getFirstEntry_4 (by decide) ?_
  refine zj_aload_nq X dJ17_getFirstEntry_5 rfl ?_
  refine zj_ifnull (tgt := 24) X dJ17_getFirstEntry_6 (by decide) (fun c_6 => ?_) (fun a_6 c_6 => ?_)
  · have e_6 := om_n c_6
    refine zj_aload_nq X dJ17_getFirstEntry_24 rfl ?_
    exact zj_aret  X hQ (⟨by rw [tNx_u ho (tW_ro0 hW e_6 0), e_6], rfl⟩) rfl (by first | exact Or.inl ⟨_, rfl⟩ | exact Or.inr ⟨_, rfl⟩) (by decide) (by decide) dJ17_getFirstEntry_25
  · obtain ⟨r0, e_6, rfl⟩ := om_s c_6
    have h0 := hW.2.2.1 r0 e_6
    rw [e_6]
    have L_9 : ∀ k_9 : Nat, ∀ (j : Nat), K j = true → lo j = 0 → hi j - lo j < k_9 → zz_J pP l eE (zz_rm 1 20 0 0) sS mM aA bB tT cC g 2 Q h 0 0 9 [(0, .ref t), (1, .ref (N j))] [] := by
      intro k_9
      induction k_9 with
      | zero =>
        intro j hKj hlo hwd
        exact absurd hwd (Nat.not_lt_zero _)
      | succ k_9 ih_9 =>
        intro j hKj hlo hwd
        refine zj_aload_n X dJ17_getFirstEntry_9 rfl ?_
        refine zj_get X in_J25 rfl 2 (by decide) q1005 (fun _ h => h) (hT.e hKj) rfl (Or.inl (by decide)) dJ17_getFirstEntry_10 ?_
        refine zj_ifnull (tgt := 24) X dJ17_getFirstEntry_13 (by decide) (fun c_13 => ?_) (fun a_13 c_13 => ?_)
        · have e_13 := om_n c_13
          have hz := tNx_u ho (by have := tW_first hW hKj e_13; rwa [hlo] at this)
          refine zj_aload_n X dJ17_getFirstEntry_24 rfl ?_
          exact zj_aret (r := some _) X hQ (⟨by rw [hz]; rfl, rfl⟩) rfl (by first | exact Or.inl ⟨_, rfl⟩ | exact Or.inr ⟨_, rfl⟩) (by decide) (by decide) dJ17_getFirstEntry_25
        · obtain ⟨m, e_13, rfl⟩ := om_s c_13
          refine zj_aload_n X dJ17_getFirstEntry_16 rfl ?_
          refine zj_get X in_J25 rfl 2 (by decide) q1005 (fun _ h => h) (hT.e hKj) rfl (Or.inl (by decide)) dJ17_getFirstEntry_17 ?_
          rw [e_13]
          refine zj_astore_n X dJ17_getFirstEntry_20 (by decide) ?_
          refine zj_goto (tgt := 9) X dJ17_getFirstEntry_21 (by decide) ?_
          exact zj_lo (ih_9 m (hW.2.2.2.1 j m hKj e_13).1 ((hW.2.2.2.1 j m hKj e_13).2.1.trans hlo) (by have := tW_wL hW hKj e_13; omega)) ⟨rfl, rfl, trivial⟩
    exact zj_lo (L_9 17 r0 h0.1 h0.2.1 (by omega)) ⟨rfl, rfl, trivial⟩

set_option maxHeartbeats 4000000 in
theorem cj_successor (l : Launch) (g : zz_G) {h0 h : zz_H} {t : Nat} {K : Nat → Bool} {N V : Nat → Nat} {L R P : Nat → Option Nat} {C : Nat → Bool} {ro : Option Nat} {sz : Nat} {md : Int32} (hT : TM g h0 h t K N V L R P C ro sz md) {lo hi : Nat → Nat} (hW : tW K ro L R P lo hi) {k : Nat} (hk : K k = true) {o : Option Nat} (ho : tNx K (k + 1) o) : zz_C l g yJ17_successor cJ17_successor 3 (some (.object "java/util/TreeMap$Entry")) (zz_rm 1 20 0 0) [.ref (N k)] h (fun r h' => r = some (rN N o) ∧ h' = h) := by
  refine zz_C.of (by decide) (Nat.le_of_ble_eq_true rfl) (fun pP eE sS mM aA bB tT cC X Q hQ => ?_)
  refine zj_aload_n X dJ17_successor_0 rfl ?_
  refine zj_ifnonnull (r := some _) (tgt := 6) X dJ17_successor_1 (by decide) (fun a_1 c_1 => ?_) (fun c => by cases c)
  refine zj_aload_n X dJ17_successor_6 rfl ?_
  refine zj_get X in_J25 rfl 3 (by decide) q1006 (fun _ h => h) (hT.e hk) rfl (Or.inl (by decide)) dJ17_successor_7 ?_
  refine zj_ifnull (tgt := 35) X dJ17_successor_10 (by decide) (fun c_10 => ?_) (fun a_10 c_10 => ?_)
  · have e_10 := om_n c_10
    refine zj_aload_n X dJ17_successor_35 rfl ?_
    refine zj_get X in_J25 rfl 4 (by decide) q1008 (fun _ h => h) (hT.e hk) rfl (Or.inl (by decide)) dJ17_successor_36 ?_
    refine zj_astore_nq X dJ17_successor_39 (by decide) ?_
    refine zj_aload_n X dJ17_successor_40 rfl ?_
    refine zj_astore_n X dJ17_successor_41 (by decide) ?_
    have L_42 : ∀ k_42 : Nat, ∀ (ch : Nat) (pp : Option Nat), tCl K P hi k ch pp → ch < k_42 → zz_J pP l eE (zz_rm 1 20 0 0) sS mM aA bB tT cC g 3 Q h 0 0 42 [(0, .ref (N k)), (1, rN N pp), (2, .ref (N ch))] [] := by
      intro k_42
      induction k_42 with
      | zero =>
        intro ch pp hc hwd
        exact absurd hwd (Nat.not_lt_zero _)
      | succ k_42 ih_42 =>
        intro ch pp hc hwd
        refine zj_aload_nq X dJ17_successor_42 rfl ?_
        refine zj_ifnull (tgt := 64) X dJ17_successor_43 (by decide) (fun c_43 => ?_) (fun a_43 c_43 => ?_)
        · have e_43 := om_n c_43
          subst e_43
          have hz := tNx_u ho (tCl_n hW hk e_10 hc)
          refine zj_aload_nN X dJ17_successor_64 rfl ?_
          exact zj_aret (r := none) X hQ (⟨by rw [hz]; rfl, rfl⟩) rfl (by first | exact Or.inl ⟨_, rfl⟩ | exact Or.inr ⟨_, rfl⟩) (by decide) (by decide) dJ17_successor_65
        · obtain ⟨pj, rfl, rfl⟩ := om_s c_43
          have hKp : K pj = true := (hW.2.2.2.2.2.1 ch pj hc.1 hc.2.1.symm).1
          refine zj_aload_n X dJ17_successor_46 rfl ?_
          refine zj_aload_n X dJ17_successor_47 rfl ?_
          refine zj_get X in_J25 rfl 3 (by decide) q1006 (fun _ h => h) (hT.e hKp) rfl (Or.inl (by decide)) dJ17_successor_48 ?_
          refine zj_acmp_ne (rx := some _) (tgt := 64) X dJ17_successor_51 (by decide) (fun c_51 => ?_) (fun c_51 => ?_)
          · have hz := tNx_u ho (tCl_e hW hk e_10 hc (fun z => c_51 (by rw [z]; rfl)))
            refine zj_aload_n X dJ17_successor_64 rfl ?_
            exact zj_aret (r := some _) X hQ (⟨by rw [hz]; rfl, rfl⟩) rfl (by first | exact Or.inl ⟨_, rfl⟩ | exact Or.inr ⟨_, rfl⟩) (by decide) (by decide) dJ17_successor_65
          · have e_51 : R pj = some ch := (hT.inj' (oK hc.1) (tW_oR hW hKp) c_51).symm
            obtain ⟨g1, g2⟩ := tCl_up hW hc e_51
            refine zj_aload_n X dJ17_successor_54 rfl ?_
            refine zj_astore_n X dJ17_successor_55 (by decide) ?_
            refine zj_aload_n X dJ17_successor_56 rfl ?_
            refine zj_get X in_J25 rfl 4 (by decide) q1008 (fun _ h => h) (hT.e hKp) rfl (Or.inl (by decide)) dJ17_successor_57 ?_
            refine zj_astore_nq X dJ17_successor_60 (by decide) ?_
            refine zj_goto (tgt := 42) X dJ17_successor_61 (by decide) ?_
            exact zj_lo (ih_42 pj (P pj) g1 (by omega)) ⟨rfl, rfl, rfl, trivial⟩
    cases hz : P k with
    | none => exact zj_lo (L_42 16 k none ⟨hk, hz.symm, rfl⟩ (tW_16 hW hk)) ⟨rfl, rfl, rfl, trivial⟩
    | some z => exact zj_lo (L_42 16 k (some z) ⟨hk, hz.symm, rfl⟩ (tW_16 hW hk)) ⟨rfl, rfl, rfl, trivial⟩
  · obtain ⟨r0, e_10, rfl⟩ := om_s c_10
    have h0 := hW.2.2.2.2.1 k r0 hk e_10
    refine zj_aload_n X dJ17_successor_13 rfl ?_
    refine zj_get X in_J25 rfl 3 (by decide) q1006 (fun _ h => h) (hT.e hk) rfl (Or.inl (by decide)) dJ17_successor_14 ?_
    rw [e_10]
    refine zj_astore_n X dJ17_successor_17 (by decide) ?_
    have L_18 : ∀ k_18 : Nat, ∀ (j : Nat), K j = true → lo j = k + 1 → hi j - lo j < k_18 → zz_J pP l eE (zz_rm 1 20 0 0) sS mM aA bB tT cC g 3 Q h 0 0 18 [(0, .ref (N k)), (1, .ref (N j))] [] := by
      intro k_18
      induction k_18 with
      | zero =>
        intro j hKj hlo hwd
        exact absurd hwd (Nat.not_lt_zero _)
      | succ k_18 ih_18 =>
        intro j hKj hlo hwd
        refine zj_aload_n X dJ17_successor_18 rfl ?_
        refine zj_get X in_J25 rfl 2 (by decide) q1005 (fun _ h => h) (hT.e hKj) rfl (Or.inl (by decide)) dJ17_successor_19 ?_
        refine zj_ifnull (tgt := 33) X dJ17_successor_22 (by decide) (fun c_22 => ?_) (fun a_22 c_22 => ?_)
        · have e_22 := om_n c_22
          have hz := tNx_u ho (by have := tW_first hW hKj e_22; rwa [hlo] at this)
          refine zj_aload_n X dJ17_successor_33 rfl ?_
          exact zj_aret (r := some _) X hQ (⟨by rw [hz]; rfl, rfl⟩) rfl (by first | exact Or.inl ⟨_, rfl⟩ | exact Or.inr ⟨_, rfl⟩) (by decide) (by decide) dJ17_successor_34
        · obtain ⟨m, e_22, rfl⟩ := om_s c_22
          refine zj_aload_n X dJ17_successor_25 rfl ?_
          refine zj_get X in_J25 rfl 2 (by decide) q1005 (fun _ h => h) (hT.e hKj) rfl (Or.inl (by decide)) dJ17_successor_26 ?_
          rw [e_22]
          refine zj_astore_n X dJ17_successor_29 (by decide) ?_
          refine zj_goto (tgt := 18) X dJ17_successor_30 (by decide) ?_
          exact zj_lo (ih_18 m (hW.2.2.2.1 j m hKj e_22).1 ((hW.2.2.2.1 j m hKj e_22).2.1.trans hlo) (by have := tW_wL hW hKj e_22; omega)) ⟨rfl, rfl, trivial⟩
    exact zj_lo (L_18 17 r0 h0.1 h0.2.1 (by have := hW.1 r0 h0.1; omega)) ⟨rfl, rfl, trivial⟩

set_option maxHeartbeats 4000000 in
theorem cj_pei (l : Launch) (g : zz_G) {h : zz_H} {t it : Nat} {fs : List Value} {o : Option Nat} {md : Int32} {v1 v2 v3 v4 : Value} (ht : h t = some (eO 8 fs)) (hm : fs[5]? = some (.int md)) (ha : h it = some (eO 12 [v1, v2, v3, v4])) : zz_C l g yJ23_init cJ23_init 3 none (zz_rm 1 20 0 0) [.ref it, .ref t, va_rf o] h (fun r h' => r = none ∧ h' = zz_up h it (eO 12 [va_rf o, .null, .int md, .ref t])) := by
  refine zz_C.of (by decide) (by cases o <;> exact Nat.le_of_ble_eq_true rfl) (fun pP eE sS mM aA bB tT cC X Q hQ => ?_)
  have hne : t ≠ it := fun z => by rw [z, ha] at ht; cases ht
  refine zj_aload_n X dJ23_init_0 rfl ?_
  refine zj_aload_n X dJ23_init_1 rfl ?_
  refine zj_putF X in_J24 tyJ24 tyJ24_ok nmJ24 rfl 3 (by decide) q398 (fun _ h => h) rfl rfl rfl (ha) rfl rfl (Nat.le_of_ble_eq_true rfl) (Or.inl (by decide)) dJ23_init_2 ?_
  refine zj_aload_n X dJ23_init_5 rfl ?_
  refine zj_objInit X q394 q86 q87 (by decide) ⟨by decide, by decide⟩ dJ23_init_6 ?_
  refine zj_aload_n X dJ23_init_9 rfl ?_
  refine zj_aload_n X dJ23_init_10 rfl ?_
  refine zj_getN X in_J17 rfl 5 (by decide) q679 (fun _ h => h) ((show _ = _ by rw [zz_up_n hne]; exact ht)) hm (Or.inr (by decide)) dJ23_init_11 ?_
  refine zj_put X in_J24 tyJ24 tyJ24_ok nmJ24 rfl 2 (by decide) q397 (fun _ h => h) rfl (zz_up_s) rfl rfl (Nat.le_of_ble_eq_true rfl) (Or.inl (by decide)) dJ23_init_14 ?_
  refine zj_aload_n X dJ23_init_17 rfl ?_
  refine zj_null X dJ23_init_18 ?_
  refine zj_put X in_J24 tyJ24 tyJ24_ok nmJ24 rfl 1 (by decide) q396 (fun _ h => h) rfl (zz_up_s) rfl rfl (Nat.le_of_ble_eq_true rfl) (Or.inl (by decide)) dJ23_init_19 ?_
  refine zj_aload_n X dJ23_init_22 rfl ?_
  refine zj_aload_nq X dJ23_init_23 rfl ?_
  refine zj_put X in_J24 tyJ24 tyJ24_ok nmJ24 rfl 0 (by decide) q395 (fun _ h => h) rfl (zz_up_s) (by cases o <;> rfl) (by cases o <;> rfl) (Nat.le_of_ble_eq_true rfl) (Or.inl (by decide)) dJ23_init_24 ?_
  exact zj_vret X hQ (⟨rfl, by rw [zz_up_u, zz_up_u, zz_up_u]; rfl⟩) rfl (Nat.le_of_ble_eq_true rfl) (Nat.le_of_ble_eq_true rfl) dJ23_init_27

set_option maxHeartbeats 4000000 in
theorem cj_vi (l : Launch) (g : zz_G) {h : zz_H} {t it : Nat} {fs : List Value} {o : Option Nat} {md : Int32} {v1 v2 v3 v4 : Value} (ht : h t = some (eO 8 fs)) (hm : fs[5]? = some (.int md)) (ha : h it = some (eO 12 [v1, v2, v3, v4])) : zz_C l g yJ24_init cJ24_init 3 none (zz_rm 2 42 0 0) [.ref it, .ref t, va_rf o] h (fun r h' => r = none ∧ h' = zz_up h it (eO 12 [va_rf o, .null, .int md, .ref t])) := by
  refine zz_C.of (by decide) (by cases o <;> exact Nat.le_of_ble_eq_true rfl) (fun pP eE sS mM aA bB tT cC X Q hQ => ?_)
  refine zj_aload_n X dJ24_init_0 rfl ?_
  refine zj_aload_n X dJ24_init_1 rfl ?_
  refine zj_aload_nq X dJ24_init_2 rfl ?_
  refine zj_callI (n := 2) (As := [_, _]) X (cj_pei l g (o := o) ht hm ha) ⟨by decide, by decide, by decide +kernel⟩ rfl q393 q75 q391 q392 ⟨Nat.le_of_ble_eq_true rfl, Nat.le_of_ble_eq_true rfl⟩ rfl rfl (Nat.le_of_ble_eq_true rfl) ⟨Nat.le_of_ble_eq_true rfl, Nat.le_of_ble_eq_true rfl⟩ dJ24_init_3 (fun v_3 h_3 p_3 => ?_)
  obtain ⟨rfl, rfl⟩ := p_3
  exact zj_vret X hQ (⟨rfl, rfl⟩) rfl (Nat.le_of_ble_eq_true rfl) (Nat.le_of_ble_eq_true rfl) dJ24_init_6

set_option maxHeartbeats 4000000 in
theorem cj_viter (l : Launch) (g : zz_G) {h0 h : zz_H} {t : Nat} {K : Nat → Bool} {N V : Nat → Nat} {L R P : Nat → Option Nat} {C : Nat → Bool} {ro : Option Nat} {sz : Nat} {md : Int32} (hT : TM g h0 h t K N V L R P C ro sz md) {lo hi : Nat → Nat} (hW : tW K ro L R P lo hi) {q : Nat} (hq : h q = some (eO 11 [.ref t])) {o : Option Nat} (ho : tNx K 0 o) : zz_C l g yJ22_iterator cJ22_iterator 1 (some (.object "java/util/Iterator")) (zz_rm (3) (64) (1) (4)) [.ref q] h (fun r h' => ∃ it, r = some (.ref it) ∧ h it = none ∧ h' = zz_up h it (eO 12 [rN N o, .null, .int md, .ref t])) := by
  refine zz_C.of (by decide) (Nat.le_of_ble_eq_true rfl) (fun pP eE sS mM aA bB tT cC X Q hQ => ?_)
  refine zj_new (fs := [.null, .null, .int 0, .null]) (ci := 12) X in_J24 tyJ24 tyJ24_ok rfl q382 q383 q76 (by decide) (Or.inr (by decide)) (Nat.le_of_ble_eq_true rfl) (Nat.le_of_ble_eq_true rfl) dJ22_iterator_0 (fun q_0 n_0 => ?_)
  have hne : q ≠ q_0 := fun z => by rw [← z, hq] at n_0; cases n_0
  have hT2 := hT.re (e := eO 12 [.null, .null, .int 0, .null]) (hq0 n_0)
  refine zj_dup X dJ22_iterator_3 rfl ?_
  refine zj_aload_n X dJ22_iterator_4 rfl ?_
  refine zj_get X in_J22 rfl 0 (by decide) q364 (fun _ h => h) ((show _ = _ by rw [zz_up_n hne]; exact hq)) rfl (Or.inl (by decide)) dJ22_iterator_5 ?_
  refine zj_aload_n X dJ22_iterator_8 rfl ?_
  refine zj_get X in_J22 rfl 0 (by decide) q364 (fun _ h => h) ((show _ = _ by rw [zz_up_n hne]; exact hq)) rfl (Or.inl (by decide)) dJ22_iterator_9 ?_
  refine zj_callVp (n := 0) (As := []) X (cj_first l g hT2 hW ho) hT2.o rfl rfl ⟨by decide, by decide, by decide +kernel⟩ (lw_V q384 q385 q386 q68 q387) ⟨Nat.le_of_ble_eq_true rfl, Nat.le_of_ble_eq_true rfl⟩ rfl rfl (Nat.le_of_ble_eq_true rfl) ⟨Nat.le_of_ble_eq_true rfl, Nat.le_of_ble_eq_true rfl⟩ dJ22_iterator_12 ?_
  refine zj_callI (n := 2) (As := [_, _]) X (cj_vi l g (o := o.map N) (md := md) hT2.o rfl zz_up_s) ⟨by decide, by decide, by decide +kernel⟩ rfl q390 q76 q388 q389 ⟨Nat.le_of_ble_eq_true rfl, Nat.le_of_ble_eq_true rfl⟩ rfl rfl (Nat.le_of_ble_eq_true rfl) ⟨Nat.le_of_ble_eq_true rfl, Nat.le_of_ble_eq_true rfl⟩ dJ22_iterator_15 (fun v_15 h_15 p_15 => ?_)
  obtain ⟨rfl, rfl⟩ := p_15
  exact zj_aret (r := some _) X hQ (⟨_, rfl, n_0, zz_up_u⟩) rfl (by first | exact Or.inl ⟨_, rfl⟩ | exact Or.inr ⟨_, rfl⟩) (by decide) (by decide) dJ22_iterator_18

set_option maxHeartbeats 4000000 in
theorem cj_vhas (l : Launch) (g : zz_G) {h : zz_H} {it : Nat} {N : Nat → Nat} {o : Option Nat} {v1 v2 v3 : Value} (ha : h it = some (eO 12 [rN N o, v1, v2, v3])) : zz_C l g yJ23_hasNext cJ23_hasNext 1 (some .boolean) (zz_rm 1 20 0 0) [.ref it] h (fun r h' => r = some (.int (zb o.isSome)) ∧ h' = h) := by
  refine zz_C.of (by decide) (Nat.le_of_ble_eq_true rfl) (fun pP eE sS mM aA bB tT cC X Q hQ => ?_)
  refine zj_aload_n X dJ23_hasNext_0 rfl ?_
  refine zj_get X in_J24 rfl 0 (by decide) q395 (fun _ h => h) (ha) rfl (Or.inl (by decide)) dJ23_hasNext_1 ?_
  refine zj_ifnull (tgt := 11) X dJ23_hasNext_4 (by decide) (fun c_4 => ?_) (fun a_4 c_4 => ?_)
  · have e_4 := om_n c_4
    subst e_4
    refine zj_iconst (v := 0) X dJ23_hasNext_11 rfl ?_
    exact zj_zret X hQ (⟨rfl, rfl⟩) rfl (by decide) (Nat.le_of_ble_eq_true rfl) (Nat.le_of_ble_eq_true rfl) dJ23_hasNext_12
  · obtain ⟨j, rfl, -⟩ := om_s c_4
    refine zj_iconst (v := 1) X dJ23_hasNext_7 rfl ?_
    refine zj_goto (tgt := 12) X dJ23_hasNext_8 (by decide) ?_
    exact zj_zret X hQ (⟨rfl, rfl⟩) rfl (by decide) (Nat.le_of_ble_eq_true rfl) (Nat.le_of_ble_eq_true rfl) dJ23_hasNext_12

set_option maxHeartbeats 4000000 in
theorem cj_nextEntry (l : Launch) (g : zz_G) {h0 h : zz_H} {t : Nat} {K : Nat → Bool} {N V : Nat → Nat} {L R P : Nat → Option Nat} {C : Nat → Bool} {ro : Option Nat} {sz : Nat} {md : Int32} (hT : TM g h0 h t K N V L R P C ro sz md) {lo hi : Nat → Nat} (hW : tW K ro L R P lo hi) {it k : Nat} {v1 : Value} (ha : h it = some (eO 12 [rN N (some k), v1, .int md, .ref t])) (hk : K k = true) {o : Option Nat} (ho : tNx K (k + 1) o) : zz_C l g yJ23_nextEntry cJ23_nextEntry 2 (some (.object "java/util/TreeMap$Entry")) (zz_rm 2 42 0 0) [.ref it] h (fun r h' => r = some (.ref (N k)) ∧ h' = zz_up h it (eO 12 [rN N o, .ref (N k), .int md, .ref t])) := by
  refine zz_C.of (by decide) (Nat.le_of_ble_eq_true rfl) (fun pP eE sS mM aA bB tT cC X Q hQ => ?_)
  refine zj_aload_n X dJ23_nextEntry_0 rfl ?_
  refine zj_get X in_J24 rfl 0 (by decide) q395 (fun _ h => h) (ha) rfl (Or.inl (by decide)) dJ23_nextEntry_1 ?_
  refine zj_astore_n X dJ23_nextEntry_4 (by decide) ?_
  refine zj_aload_n X dJ23_nextEntry_5 rfl ?_
  refine zj_ifnonnull (r := some _) (tgt := 17) X dJ23_nextEntry_6 (by decide) (fun a_6 c_6 => ?_) (fun c => by cases c)
  refine zj_aload_n X dJ23_nextEntry_17 rfl ?_
  refine zj_get X in_J24 rfl 3 (by decide) q398 (fun _ h => h) (ha) rfl (Or.inl (by decide)) dJ23_nextEntry_18 ?_
  refine zj_getN X in_J17 rfl 5 (by decide) q679 (fun _ h => h) (hT.o) rfl (Or.inr (by decide)) dJ23_nextEntry_21 ?_
  refine zj_aload_n X dJ23_nextEntry_24 rfl ?_
  refine zj_get X in_J24 rfl 2 (by decide) q397 (fun _ h => h) (ha) rfl (Or.inl (by decide)) dJ23_nextEntry_25 ?_
  refine zj_icmp_eq (tgt := 39) X dJ23_nextEntry_28 (by decide) (fun c_28 => ?_) (fun c_28 => absurd rfl c_28)
  refine zj_aload_n X dJ23_nextEntry_39 rfl ?_
  refine zj_aload_n X dJ23_nextEntry_40 rfl ?_
  refine zj_callSp (n := 1) (As := [_]) X (cj_successor l g hT hW hk ho) ⟨by decide, by decide, by decide +kernel⟩ (lw_S q284 q285 q68 q286) ⟨Nat.le_of_ble_eq_true rfl, Nat.le_of_ble_eq_true rfl⟩ rfl rfl (Nat.le_of_ble_eq_true rfl) ⟨Nat.le_of_ble_eq_true rfl, Nat.le_of_ble_eq_true rfl⟩ dJ23_nextEntry_41 ?_
  refine zj_put X in_J24 tyJ24 tyJ24_ok nmJ24 rfl 0 (by decide) q395 (fun _ h => h) rfl (ha) (by cases o <;> rfl) (by cases o <;> rfl) (Nat.le_of_ble_eq_true rfl) (Or.inl (by decide)) dJ23_nextEntry_44 ?_
  refine zj_aload_n X dJ23_nextEntry_47 rfl ?_
  refine zj_aload_n X dJ23_nextEntry_48 rfl ?_
  refine zj_put X in_J24 tyJ24 tyJ24_ok nmJ24 rfl 1 (by decide) q396 (fun _ h => h) rfl (zz_up_s) rfl rfl (Nat.le_of_ble_eq_true rfl) (Or.inl (by decide)) dJ23_nextEntry_49 ?_
  refine zj_aload_n X dJ23_nextEntry_52 rfl ?_
  exact zj_aret (r := some _) X hQ (⟨rfl, by rw [zz_up_u]; rfl⟩) rfl (by first | exact Or.inl ⟨_, rfl⟩ | exact Or.inr ⟨_, rfl⟩) (by decide) (by decide) dJ23_nextEntry_53

set_option maxHeartbeats 4000000 in
theorem cj_vnext (l : Launch) (g : zz_G) {h0 h : zz_H} {t : Nat} {K : Nat → Bool} {N V : Nat → Nat} {L R P : Nat → Option Nat} {C : Nat → Bool} {ro : Option Nat} {sz : Nat} {md : Int32} (hT : TM g h0 h t K N V L R P C ro sz md) {lo hi : Nat → Nat} (hW : tW K ro L R P lo hi) {it k : Nat} {v1 : Value} (ha : h it = some (eO 12 [rN N (some k), v1, .int md, .ref t])) (hk : K k = true) {o : Option Nat} (ho : tNx K (k + 1) o) : zz_C l g yJ24_next cJ24_next 1 (some (.object "java/lang/Object")) (zz_rm (3) (82) (0) (0)) [.ref it] h (fun r h' => r = some (.ref (V k)) ∧ h' = zz_up h it (eO 12 [rN N o, .ref (N k), .int md, .ref t])) := by
  refine zz_C.of (by decide) (Nat.le_of_ble_eq_true rfl) (fun pP eE sS mM aA bB tT cC X Q hQ => ?_)
  have hne : N k ≠ it := fun z => by have := hT.e hk; rw [z, ha] at this; cases this
  refine zj_aload_n X dJ24_next_0 rfl ?_
  refine zj_callU (n := 0) (As := []) (x2 := ⟨"java/util/TreeMap$ValueIterator", "nextEntry", "()Ljava/util/TreeMap$Entry;"⟩) (C := "java/util/TreeMap$ValueIterator") (owner := "java/util/TreeMap$PrivateEntryIterator") X (cj_nextEntry l g hT hW ha hk ho) (X.rcO (q := (RJ24, TJ24, 4)) ha rfl) rfl ⟨by decide, by decide, by decide +kernel⟩ (lw_U q276 q277 q279 q280 q75 q281) ⟨Nat.le_of_ble_eq_true rfl, Nat.le_of_ble_eq_true rfl⟩ rfl rfl (Nat.le_of_ble_eq_true rfl) ⟨Nat.le_of_ble_eq_true rfl, Nat.le_of_ble_eq_true rfl⟩ dJ24_next_1 (fun v_1 h_1 p_1 => ?_)
  obtain ⟨rfl, rfl⟩ := p_1
  refine zj_get X in_J25 rfl 1 (by decide) q1003 (fun _ h => h) ((show _ = _ by rw [zz_up_n hne]; exact hT.e hk)) rfl (Or.inl (by decide)) dJ24_next_4 ?_
  exact zj_aret (r := some _) X hQ (⟨rfl, rfl⟩) rfl (by first | exact Or.inl ⟨_, rfl⟩ | exact Or.inr ⟨_, rfl⟩) (by decide) (by decide) dJ24_next_7

