set_option maxRecDepth 100000
/-! THE LIBRARY: boxed ints; the picture of a TreeMap -/
section ZRV
variable {p : Program} {l : Launch} {e : Env} {R : Room} {s : State} {m : MethodId} {args : Array Value} {below : List Frame} {meth : Method} {c : Code} {g : zz_G} {y : MethodName} {cc : ByteArray} {nL : Nat} {ret : Option FieldType} {Q : State → Prop} {h : zz_H} {mc ms pc : Nat} {lo : List (Nat × Value)} {rest : List Value}
variable {y2 : MethodName} {cc2 : ByteArray} {L2 index n : Nat} {ret2 : Option FieldType} {rm2 : Room} {As : List Value} {post : Option Value → zz_H → Prop} {st : List Value}
theorem zj_callVc (X : zz_X l g y cc nL ret p s m args meth c) {a : Nat} {C : String} {w : Value} (hM : zz_C l g y2 cc2 L2 ret2 rm2 (.ref a :: As) h (fun r h' => r = some w ∧ h' = h)) (hr : zz_rc g s h a C) (hq : y2.cls = C) (hok : zz_ok y2 n) (hG : GoodIn lw_all (wsV y.cls index C y2 (ws_ y2 cc2 L2 ret2))) (hrm : rm2.frames + 1 ≤ R.frames ∧ 8 + (L2 + 11) + rm2.locals ≤ R.locals) (hn : As.length = n) (hst : st = As.reverse ++ .ref a :: rest) (hw : (rest.map fun v => v.category).sum ≤ 8) (hf : mc + rm2.cells ≤ R.cells ∧ ms + rm2.slots ≤ R.slots) (hdg : decode cc pc = .ok (.invokevirtual index, 3))
    (kk : zz_J p l e R s m args below meth c g nL Q h (mc + rm2.cells) (ms + rm2.slots) (pc + 3) lo (w :: rest)) : zz_J p l e R s m args below meth c g nL Q h mc ms pc lo st := by
  refine zj_run (mc2 := rm2.cells) (ms2 := rm2.slots) (rest := rest) (post := fun r h' => r = some w ∧ h' = h) (aa := (Value.ref a :: As).toArray) (fun H locs ls hR hS hl => ?_) (fun v h' hp => by rw [hp.1, hp.2]; exact kk)
  exact va_runV (As := As) (rest := rest) X.fix hM (cwV n X.ts hG rfl rfl rfl ⟨hq, hok⟩ hrm) ⟨zz_P.blind, hr H locs hR hS, fun U hU hW => zz_P.at' X.W hR hS hU hW⟩ rfl hn hl.1 hst (lv_room hw) hdg hf
end ZRV
theorem vbc_n (j : Nat) : vb_c (128 + j) = nI j := by
  unfold vb_c
  have h1 : (Int32.ofNat (128 + j) : Int32) = nI (j + 128) := by rw [Nat.add_comm]; rfl
  rw [h1, show (128 : Int32) = nI 128 from rfl, ← nI_add, Int32.add_sub_cancel]
/-- a comparison -/
def zcmp (x y : Int32) : Int32 := if x < y then -1 else if x = y then 0 else 1

set_option maxHeartbeats 4000000 in
theorem cj_valueOf (l : Launch) (g : zz_G) (h : zz_H) {k : Nat} (hk : k < 128) : zz_C l g yJ21_valueOf cJ21_valueOf 1 (some (.object "java/lang/Integer")) (zz_rm 1 20 0 0) [.int (nI k)] h (fun r h' => r = some (.ref (gC g (128 + k))) ∧ h' = h) := by
  refine zz_C.of (by decide) (Nat.le_of_ble_eq_true rfl) (fun pP eE sS mM aA bB tT cC X Q hQ => ?_)
  refine zj_iload_n X dJ21_valueOf_0 rfl ?_
  refine zj_bipush (v := (-128)) X dJ21_valueOf_1 (by decide) ?_
  refine zj_icmp_lt (tgt := 23) X dJ21_valueOf_3 (by decide) (fun c_3 => absurd (Int32.lt_of_le_of_lt (nI_pos' (by omega)) c_3) (by decide)) (fun c_3 => ?_)
  refine zj_iload_n X dJ21_valueOf_6 rfl ?_
  refine zj_gets X X.high q876 (fun _ h => h) dJ21_valueOf_7 ?_
  refine zj_icmp_gt (tgt := 23) X dJ21_valueOf_10 (by decide) (fun c_10 => absurd (show nI 127 < nI k from c_10) (nI_nlt (by omega) (by omega))) (fun c_10 => ?_)
  refine zj_gets X X.cache q878 (fun _ h => h) dJ21_valueOf_13 ?_
  refine zj_iload_n X dJ21_valueOf_16 rfl ?_
  refine zj_sipush (v := 128) X dJ21_valueOf_17 (by decide) ?_
  refine zj_iadd X dJ21_valueOf_20 ?_
  refine zj_box (j := 128 + k) X (by rw [show (128 : Int32) = nI 128 from rfl, nI_add, Nat.add_comm]) (by omega) dJ21_valueOf_21 ?_
  exact zj_aret (r := some _) X hQ (⟨rfl, rfl⟩) rfl (by first | exact Or.inl ⟨_, rfl⟩ | exact Or.inr ⟨_, rfl⟩) (by decide) (by decide) dJ21_valueOf_22

set_option maxHeartbeats 4000000 in
theorem cj_compare (l : Launch) (g : zz_G) (h : zz_H) (x y : Int32) : zz_C l g yJ21_compare cJ21_compare 2 (some .int) (zz_rm 1 20 0 0) [.int x, .int y] h (fun r h' => r = some (.int (zcmp x y)) ∧ h' = h) := by
  refine zz_C.of (by decide) (Nat.le_of_ble_eq_true rfl) (fun pP eE sS mM aA bB tT cC X Q hQ => ?_)
  refine zj_iload_n X dJ21_compare_0 rfl ?_
  refine zj_iload_n X dJ21_compare_1 rfl ?_
  refine zj_icmp_ge (tgt := 9) X dJ21_compare_2 (by decide) (fun c_2 => ?_) (fun c_2 => ?_)
  · refine zj_iload_n X dJ21_compare_9 rfl ?_
    refine zj_iload_n X dJ21_compare_10 rfl ?_
    refine zj_icmp_ne (tgt := 18) X dJ21_compare_11 (by decide) (fun c_11 => ?_) (fun c_11 => ?_)
    · refine zj_iconst (v := 1) X dJ21_compare_18 rfl ?_
      exact zj_iret X hQ (⟨zi_c (by rw [zcmp, if_neg (Int32.not_lt.mpr c_2), if_neg c_11]), rfl⟩) rfl (Nat.le_of_ble_eq_true rfl) (Nat.le_of_ble_eq_true rfl) dJ21_compare_19
    · refine zj_iconst (v := 0) X dJ21_compare_14 rfl ?_
      refine zj_goto (tgt := 19) X dJ21_compare_15 (by decide) ?_
      exact zj_iret X hQ (⟨zi_c (by rw [zcmp, if_neg (Int32.not_lt.mpr c_2), if_pos c_11]), rfl⟩) rfl (Nat.le_of_ble_eq_true rfl) (Nat.le_of_ble_eq_true rfl) dJ21_compare_19
  · refine zj_iconst (v := (-1)) X dJ21_compare_5 rfl ?_
    refine zj_goto (tgt := 19) X dJ21_compare_6 (by decide) ?_
    exact zj_iret X hQ (⟨zi_c (by rw [zcmp, if_pos (Int32.not_le.mp c_2)]), rfl⟩) rfl (Nat.le_of_ble_eq_true rfl) (Nat.le_of_ble_eq_true rfl) dJ21_compare_19

set_option maxHeartbeats 4000000 in
theorem cj_compareTo2 (l : Launch) (g : zz_G) (h : zz_H) {j k : Nat} (hj : j < 128) (hk : k < 128) : zz_C l g yJ21_compareTo_2 cJ21_compareTo_2 2 (some .int) (zz_rm 2 41 0 0) [.ref (gC g (128 + j)), .ref (gC g (128 + k))] h (fun r h' => r = some (.int (zcmp (nI j) (nI k))) ∧ h' = h) := by
  refine zz_C.of (by decide) (Nat.le_of_ble_eq_true rfl) (fun pP eE sS mM aA bB tT cC X Q hQ => ?_)
  refine zj_aload_n X dJ21_compareTo_2_0 rfl ?_
  refine zj_getc X (j := 128 + j) (by omega) (vbc_n j) q889 (fun _ h => h) dJ21_compareTo_2_1 ?_
  refine zj_aload_n X dJ21_compareTo_2_4 rfl ?_
  refine zj_getc X (j := 128 + k) (by omega) (vbc_n k) q889 (fun _ h => h) dJ21_compareTo_2_5 ?_
  refine zj_callSp (n := 2) (As := [_, _]) X (cj_compare l g h _ _) ⟨by decide, by decide, by decide +kernel⟩ (lw_S q935 q422 q72 q423) ⟨Nat.le_of_ble_eq_true rfl, Nat.le_of_ble_eq_true rfl⟩ rfl rfl (Nat.le_of_ble_eq_true rfl) ⟨Nat.le_of_ble_eq_true rfl, Nat.le_of_ble_eq_true rfl⟩ dJ21_compareTo_2_8 ?_
  exact zj_iret X hQ (⟨rfl, rfl⟩) rfl (Nat.le_of_ble_eq_true rfl) (Nat.le_of_ble_eq_true rfl) dJ21_compareTo_2_11

set_option maxHeartbeats 4000000 in
theorem cj_compareTo (l : Launch) (g : zz_G) (h : zz_H) {j k : Nat} (hj : j < 128) (hk : k < 128) : zz_C l g yJ21_compareTo cJ21_compareTo 2 (some .int) (zz_rm (4) (100) (0) (0)) [.ref (gC g (128 + j)), .ref (gC g (128 + k))] h (fun r h' => r = some (.int (zcmp (nI j) (nI k))) ∧ h' = h) := by
  refine zz_C.of (by decide) (Nat.le_of_ble_eq_true rfl) (fun pP eE sS mM aA bB tT cC X Q hQ => ?_)
  refine zj_aload_n X dJ21_compareTo_0 rfl ?_
  refine zj_aload_n X dJ21_compareTo_1 rfl ?_
  refine zj_castI X (by omega) q880 dJ21_compareTo_2 ?_
  refine zj_callVc (n := 1) (As := [_]) X (cj_compareTo2 l g h hj hk) (X.rcI (by omega)) rfl ⟨by decide, by decide, by decide +kernel⟩ (lw_V q931 q932 q933 q72 q934) ⟨Nat.le_of_ble_eq_true rfl, Nat.le_of_ble_eq_true rfl⟩ rfl rfl (Nat.le_of_ble_eq_true rfl) ⟨Nat.le_of_ble_eq_true rfl, Nat.le_of_ble_eq_true rfl⟩ dJ21_compareTo_5 ?_
  exact zj_iret X hQ (⟨rfl, rfl⟩) rfl (Nat.le_of_ble_eq_true rfl) (Nat.le_of_ble_eq_true rfl) dJ21_compareTo_8

set_option maxHeartbeats 4000000 in
theorem cj_requireNonNull (l : Launch) (g : zz_G) (h : zz_H) (a : Nat) : zz_C l g yJ14_requireNonNull cJ14_requireNonNull 1 (some (.object "java/lang/Object")) (zz_rm 1 20 0 0) [.ref a] h (fun r h' => r = some (.ref a) ∧ h' = h) := by
  refine zz_C.of (by decide) (Nat.le_of_ble_eq_true rfl) (fun pP eE sS mM aA bB tT cC X Q hQ => ?_)
  refine zj_aload_n X dJ14_requireNonNull_0 rfl ?_
  refine zj_ifnonnull (r := some _) (tgt := 12) X dJ14_requireNonNull_1 (by decide) (fun a_1 c_1 => ?_) (fun c => by cases c)
  refine zj_aload_n X dJ14_requireNonNull_12 rfl ?_
  exact zj_aret (r := some _) X hQ (⟨rfl, rfl⟩) rfl (by first | exact Or.inl ⟨_, rfl⟩ | exact Or.inr ⟨_, rfl⟩) (by decide) (by decide) dJ14_requireNonNull_13

def zus (x : Int32) (k : Int32) : Int32 := (x.toUInt32 >>> (k.toUInt32 &&& Int32.toUInt32 31)).toInt32
def zbc (x : Int32) : Int32 :=
  let x1 := x - (zus x 1 &&& 1431655765)
  let x2 := (x1 &&& 858993459) + (zus x1 2 &&& 858993459)
  let x3 := (x2 + zus x2 4) &&& 252645135
  let x4 := x3 + zus x3 8
  let x5 := x4 + zus x4 16
  x5 &&& 63

set_option maxHeartbeats 4000000 in
theorem cj_bitCount (l : Launch) (g : zz_G) (h : zz_H) (x : Int32) : zz_C l g yJ21_bitCount cJ21_bitCount 1 (some .int) (zz_rm 1 20 0 0) [.int x] h (fun r h' => r = some (.int (zbc x)) ∧ h' = h) := by
  refine zz_C.of (by decide) (Nat.le_of_ble_eq_true rfl) (fun pP eE sS mM aA bB tT cC X Q hQ => ?_)
  refine zj_iload_n X dJ21_bitCount_0 rfl ?_
  refine zj_iload_n X dJ21_bitCount_1 rfl ?_
  refine zj_iconst (v := 1) X dJ21_bitCount_2 rfl ?_
  refine zj_iushr X dJ21_bitCount_3 rfl ?_
  refine zj_ldcw X q752 dJ21_bitCount_4 ?_
  refine zj_iand X dJ21_bitCount_7 ?_
  refine zj_isub X dJ21_bitCount_8 ?_
  refine zj_istore_n X dJ21_bitCount_9 (by decide) ?_
  refine zj_iload_n X dJ21_bitCount_10 rfl ?_
  refine zj_ldcw X q753 dJ21_bitCount_11 ?_
  refine zj_iand X dJ21_bitCount_14 ?_
  refine zj_iload_n X dJ21_bitCount_15 rfl ?_
  refine zj_iconst (v := 2) X dJ21_bitCount_16 rfl ?_
  refine zj_iushr X dJ21_bitCount_17 rfl ?_
  refine zj_ldcw X q753 dJ21_bitCount_18 ?_
  refine zj_iand X dJ21_bitCount_21 ?_
  refine zj_iadd X dJ21_bitCount_22 ?_
  refine zj_istore_n X dJ21_bitCount_23 (by decide) ?_
  refine zj_iload_n X dJ21_bitCount_24 rfl ?_
  refine zj_iload_n X dJ21_bitCount_25 rfl ?_
  refine zj_iconst (v := 4) X dJ21_bitCount_26 rfl ?_
  refine zj_iushr X dJ21_bitCount_27 rfl ?_
  refine zj_iadd X dJ21_bitCount_28 ?_
  refine zj_ldcw X q754 dJ21_bitCount_29 ?_
  refine zj_iand X dJ21_bitCount_32 ?_
  refine zj_istore_n X dJ21_bitCount_33 (by decide) ?_
  refine zj_iload_n X dJ21_bitCount_34 rfl ?_
  refine zj_iload_n X dJ21_bitCount_35 rfl ?_
  refine zj_bipush (v := 8) X dJ21_bitCount_36 (by decide) ?_
  refine zj_iushr X dJ21_bitCount_38 rfl ?_
  refine zj_iadd X dJ21_bitCount_39 ?_
  refine zj_istore_n X dJ21_bitCount_40 (by decide) ?_
  refine zj_iload_n X dJ21_bitCount_41 rfl ?_
  refine zj_iload_n X dJ21_bitCount_42 rfl ?_
  refine zj_bipush (v := 16) X dJ21_bitCount_43 (by decide) ?_
  refine zj_iushr X dJ21_bitCount_45 rfl ?_
  refine zj_iadd X dJ21_bitCount_46 ?_
  refine zj_istore_n X dJ21_bitCount_47 (by decide) ?_
  refine zj_iload_n X dJ21_bitCount_48 rfl ?_
  refine zj_bipush (v := 63) X dJ21_bitCount_49 (by decide) ?_
  refine zj_iand X dJ21_bitCount_51 ?_
  exact zj_iret X hQ (⟨rfl, rfl⟩) rfl (Nat.le_of_ble_eq_true rfl) (Nat.le_of_ble_eq_true rfl) dJ21_bitCount_52

abbrev rN (N : Nat → Nat) (o : Option Nat) : Value := va_rf (o.map N)
theorem om_n {N : Nat → Nat} {o : Option Nat} (h : o.map N = none) : o = none := by cases o; rfl; cases h
theorem om_s {N : Nat → Nat} {o : Option Nat} {a : Nat} (h : o.map N = some a) : ∃ j, o = some j ∧ a = N j := by
  cases o with
  | none => cases h
  | some j => cases h; exact ⟨j, rfl, rfl⟩
/-- a TreeMap's fields -/
def tmF (N : Nat → Nat) (ro : Option Nat) (sz : Nat) (md : Int32) : List Value := [.null, .null, .null, rN N ro, .int (nI sz), .int md, .null, .null, .null]
/-- an entry's fields -/
def teF (g : zz_G) (N V : Nat → Nat) (L R P : Nat → Option Nat) (C : Nat → Bool) (k : Nat) : List Value := [.ref (gC g (128 + k)), .ref (V k), rN N (L k), rN N (R k), rN N (P k), .int (zb (C k))]
/-- the map t: its keys K, their entries' addresses N, their values V; the tree. Other cells as in h0 -/
def TM (g : zz_G) (h0 h : zz_H) (t : Nat) (K : Nat → Bool) (N V : Nat → Nat) (L R P : Nat → Option Nat) (C : Nat → Bool) (ro : Option Nat) (sz : Nat) (md : Int32) : Prop :=
  h t = some (eO 8 (tmF N ro sz md)) ∧ (∀ k, K k = true → h (N k) = some (eO 9 (teF g N V L R P C k))) ∧ (∀ j k, K j = true → K k = true → N j = N k → j = k) ∧ ∀ a, a ≠ t → (∀ k, K k = true → a ≠ N k) → h a = h0 a
section TMS
variable {g : zz_G} {h0 h : zz_H} {t : Nat} {K : Nat → Bool} {N V : Nat → Nat} {L R P : Nat → Option Nat} {C : Nat → Bool} {ro : Option Nat} {sz : Nat} {md : Int32}
theorem TM.o (hT : TM g h0 h t K N V L R P C ro sz md) : h t = some (eO 8 (tmF N ro sz md)) := hT.1
theorem TM.e (hT : TM g h0 h t K N V L R P C ro sz md) {k : Nat} (hk : K k = true) : h (N k) = some (eO 9 (teF g N V L R P C k)) := hT.2.1 k hk
theorem TM.ne (hT : TM g h0 h t K N V L R P C ro sz md) {k : Nat} (hk : K k = true) : N k ≠ t := fun z => by
  have h1 := hT.e hk
  rw [z, hT.o] at h1
  cases h1
theorem TM.inj (hT : TM g h0 h t K N V L R P C ro sz md) {j k : Nat} (hj : K j = true) (hk : K k = true) (e : N j = N k) : j = k := hT.2.2.1 j k hj hk e
theorem TM.inj' (hT : TM g h0 h t K N V L R P C ro sz md) {x y : Option Nat} (hx : ∀ j, x = some j → K j = true) (hy : ∀ j, y = some j → K j = true) (e : x.map N = y.map N) : x = y := by
  cases x with
  | none =>
    cases y with
    | none => rfl
    | some k => cases e
  | some j =>
    cases y with
    | none => cases e
    | some k => rw [hT.inj (hx j rfl) (hy k rfl) (Option.some.inj e)]
/-- an entry is written -/
theorem TM.up (hT : TM g h0 h t K N V L R P C ro sz md) {k : Nat} (hk : K k = true) {L' R' P' : Nat → Option Nat} {C' : Nat → Bool} (hq : ∀ j, j ≠ k → L' j = L j ∧ R' j = R j ∧ P' j = P j ∧ C' j = C j) : TM g h0 (zz_up h (N k) (eO 9 (teF g N V L' R' P' C' k))) t K N V L' R' P' C' ro sz md := by
  obtain ⟨h1, h2, h3, h4⟩ := hT
  refine ⟨by rw [zz_up_n (fun z => by have := h2 k hk; rw [← z, h1] at this; cases this)]; exact h1, fun j hj => ?_, h3, fun a ha hb => by rw [zz_up_n (hb k hk)]; exact h4 a ha hb⟩
  by_cases hjk : j = k
  · subst hjk
    exact zz_up_s
  · rw [zz_up_n (fun z => hjk (h3 j k hj hk z)), h2 j hj]
    obtain ⟨q1, q2, q3, q4⟩ := hq j hjk
    simp only [teF, q1, q2, q3, q4]
/-- the map's own cell is written -/
theorem TM.ut (hT : TM g h0 h t K N V L R P C ro sz md) (ro' : Option Nat) (sz' : Nat) (md' : Int32) : TM g h0 (zz_up h t (eO 8 (tmF N ro' sz' md'))) t K N V L R P C ro' sz' md' := by
  have hne := fun k hk => hT.ne (k := k) hk
  obtain ⟨h1, h2, h3, h4⟩ := hT
  exact ⟨zz_up_s, fun j hj => by rw [zz_up_n (hne j hj)]; exact h2 j hj, h3, fun a ha hb => by rw [zz_up_n ha]; exact h4 a ha hb⟩
end TMS
section ZT
variable {p : Program} {l : Launch} {e : Env} {Rm : Room} {s : State} {m : MethodId} {args : Array Value} {below : List Frame} {meth : Method} {c : Code} {g : zz_G} {y : MethodName} {cc : ByteArray} {nL : Nat} {ret : Option FieldType} {Q : State → Prop} {h h0 : zz_H} {mc ms pc : Nat} {loc : List (Nat × Value)} {rest : List Value}
variable {t : Nat} {K : Nat → Bool} {N V : Nat → Nat} {L R P : Nat → Option Nat} {C : Nat → Bool} {ro : Option Nat} {sz : Nat} {md : Int32}
theorem tm_pL (X : zz_X l g y cc nL ret p s m args meth c) (hT : TM g h0 h t K N V L R P C ro sz md) {k : Nat} (hk : K k = true) (o : Option Nat) {index : Nat} {ref : String} (hlink : Cond.fieldLink y.cls index ref (TJ25 2).2.1 (TJ25 2).2.2.1 ∈ lw_all) (hsame : ∀ x, s.fieldFound? (TJ25 2).1 (TJ25 2).2.1 (TJ25 2).2.2.1 = some x → s.fieldFound? ref (TJ25 2).2.1 (TJ25 2).2.2.1 = some x) (hdg : decode cc pc = .ok (.putfield index, 3)) (kk : ∀ h' : zz_H, TM g h0 h' t K N V (fu L k o) R P C ro sz md → zz_J p l e Rm s m args below meth c g nL Q h' mc ms (pc + 3) loc rest) : zz_J p l e Rm s m args below meth c g nL Q h mc ms pc loc (rN N o :: .ref (N k) :: rest) := by
  have h2 : TM g h0 (zz_up h (N k) (eO 9 ((teF g N V L R P C k).set 2 (rN N o)))) t K N V (fu L k o) R P C ro sz md := by
    have h3 := hT.up hk (L' := (fu L k o)) (R' := R) (P' := P) (C' := C) (fun j hj => by simp only [fu_n hj, and_self])
    have e3 : teF g N V (fu L k o) R P C k = (teF g N V L R P C k).set 2 (rN N o) := by simp only [teF, fu_s]; rfl
    rw [e3] at h3
    exact h3
  exact zj_put X in_J25 tyJ25 tyJ25_ok nmJ25 rfl 2 (by decide) hlink hsame rfl (hT.e hk) (by cases o <;> rfl) (by cases o <;> rfl) (Nat.le_of_ble_eq_true rfl) (Or.inl (by decide)) hdg (kk _ h2)
theorem tm_pR (X : zz_X l g y cc nL ret p s m args meth c) (hT : TM g h0 h t K N V L R P C ro sz md) {k : Nat} (hk : K k = true) (o : Option Nat) {index : Nat} {ref : String} (hlink : Cond.fieldLink y.cls index ref (TJ25 3).2.1 (TJ25 3).2.2.1 ∈ lw_all) (hsame : ∀ x, s.fieldFound? (TJ25 3).1 (TJ25 3).2.1 (TJ25 3).2.2.1 = some x → s.fieldFound? ref (TJ25 3).2.1 (TJ25 3).2.2.1 = some x) (hdg : decode cc pc = .ok (.putfield index, 3)) (kk : ∀ h' : zz_H, TM g h0 h' t K N V L (fu R k o) P C ro sz md → zz_J p l e Rm s m args below meth c g nL Q h' mc ms (pc + 3) loc rest) : zz_J p l e Rm s m args below meth c g nL Q h mc ms pc loc (rN N o :: .ref (N k) :: rest) := by
  have h2 : TM g h0 (zz_up h (N k) (eO 9 ((teF g N V L R P C k).set 3 (rN N o)))) t K N V L (fu R k o) P C ro sz md := by
    have h3 := hT.up hk (L' := L) (R' := (fu R k o)) (P' := P) (C' := C) (fun j hj => by simp only [fu_n hj, and_self])
    have e3 : teF g N V L (fu R k o) P C k = (teF g N V L R P C k).set 3 (rN N o) := by simp only [teF, fu_s]; rfl
    rw [e3] at h3
    exact h3
  exact zj_put X in_J25 tyJ25 tyJ25_ok nmJ25 rfl 3 (by decide) hlink hsame rfl (hT.e hk) (by cases o <;> rfl) (by cases o <;> rfl) (Nat.le_of_ble_eq_true rfl) (Or.inl (by decide)) hdg (kk _ h2)
theorem tm_pP (X : zz_X l g y cc nL ret p s m args meth c) (hT : TM g h0 h t K N V L R P C ro sz md) {k : Nat} (hk : K k = true) (o : Option Nat) {index : Nat} {ref : String} (hlink : Cond.fieldLink y.cls index ref (TJ25 4).2.1 (TJ25 4).2.2.1 ∈ lw_all) (hsame : ∀ x, s.fieldFound? (TJ25 4).1 (TJ25 4).2.1 (TJ25 4).2.2.1 = some x → s.fieldFound? ref (TJ25 4).2.1 (TJ25 4).2.2.1 = some x) (hdg : decode cc pc = .ok (.putfield index, 3)) (kk : ∀ h' : zz_H, TM g h0 h' t K N V L R (fu P k o) C ro sz md → zz_J p l e Rm s m args below meth c g nL Q h' mc ms (pc + 3) loc rest) : zz_J p l e Rm s m args below meth c g nL Q h mc ms pc loc (rN N o :: .ref (N k) :: rest) := by
  have h2 : TM g h0 (zz_up h (N k) (eO 9 ((teF g N V L R P C k).set 4 (rN N o)))) t K N V L R (fu P k o) C ro sz md := by
    have h3 := hT.up hk (L' := L) (R' := R) (P' := (fu P k o)) (C' := C) (fun j hj => by simp only [fu_n hj, and_self])
    have e3 : teF g N V L R (fu P k o) C k = (teF g N V L R P C k).set 4 (rN N o) := by simp only [teF, fu_s]; rfl
    rw [e3] at h3
    exact h3
  exact zj_put X in_J25 tyJ25 tyJ25_ok nmJ25 rfl 4 (by decide) hlink hsame rfl (hT.e hk) (by cases o <;> rfl) (by cases o <;> rfl) (Nat.le_of_ble_eq_true rfl) (Or.inl (by decide)) hdg (kk _ h2)
theorem tm_pC (X : zz_X l g y cc nL ret p s m args meth c) (hT : TM g h0 h t K N V L R P C ro sz md) {k : Nat} (hk : K k = true) (b : Bool) {index : Nat} {ref : String} (hlink : Cond.fieldLink y.cls index ref (TJ25 5).2.1 (TJ25 5).2.2.1 ∈ lw_all) (hsame : ∀ x, s.fieldFound? (TJ25 5).1 (TJ25 5).2.1 (TJ25 5).2.2.1 = some x → s.fieldFound? ref (TJ25 5).2.1 (TJ25 5).2.2.1 = some x) (hdg : decode cc pc = .ok (.putfield index, 3)) (kk : ∀ h' : zz_H, TM g h0 h' t K N V L R P (fu C k b) ro sz md → zz_J p l e Rm s m args below meth c g nL Q h' mc ms (pc + 3) loc rest) : zz_J p l e Rm s m args below meth c g nL Q h mc ms pc loc (.int (zb b) :: .ref (N k) :: rest) := by
  have h2 : TM g h0 (zz_up h (N k) (eO 9 ((teF g N V L R P C k).set 5 (.int (zb b))))) t K N V L R P (fu C k b) ro sz md := by
    have h3 := hT.up hk (L' := L) (R' := R) (P' := P) (C' := (fu C k b)) (fun j hj => by simp only [fu_n hj, and_self])
    have e3 : teF g N V L R P (fu C k b) k = (teF g N V L R P C k).set 5 (.int (zb b)) := by simp only [teF, fu_s]; rfl
    rw [e3] at h3
    exact h3
  exact zj_put X in_J25 tyJ25 tyJ25_ok nmJ25 rfl 5 (by decide) hlink hsame rfl (hT.e hk) (zb_nar b) (by cases b <;> rfl) (Nat.le_of_ble_eq_true rfl) (Or.inl (by decide)) hdg (kk _ h2)
theorem tm_ro (X : zz_X l g y cc nL ret p s m args meth c) (hT : TM g h0 h t K N V L R P C ro sz md) (o : Option Nat) {index : Nat} {ref : String} (hlink : Cond.fieldLink y.cls index ref (TJ17 3).2.1 (TJ17 3).2.2.1 ∈ lw_all) (hsame : ∀ x, s.fieldFound? (TJ17 3).1 (TJ17 3).2.1 (TJ17 3).2.2.1 = some x → s.fieldFound? ref (TJ17 3).2.1 (TJ17 3).2.2.1 = some x) (hdg : decode cc pc = .ok (.putfield index, 3)) (kk : ∀ h' : zz_H, TM g h0 h' t K N V L R P C o sz md → zz_J p l e Rm s m args below meth c g nL Q h' mc ms (pc + 3) loc rest) : zz_J p l e Rm s m args below meth c g nL Q h mc ms pc loc (rN N o :: .ref t :: rest) :=
  zj_put X in_J17 tyJ17 tyJ17_ok nmJ17 rfl 3 (by decide) hlink hsame rfl hT.o (by cases o <;> rfl) (by cases o <;> rfl) (Nat.le_of_ble_eq_true rfl) (Or.inr (by decide)) hdg (kk _ (hT.ut o sz md))
theorem tm_sz (X : zz_X l g y cc nL ret p s m args meth c) (hT : TM g h0 h t K N V L R P C ro sz md) (z : Nat) {index : Nat} {ref : String} (hlink : Cond.fieldLink y.cls index ref (TJ17 4).2.1 (TJ17 4).2.2.1 ∈ lw_all) (hsame : ∀ x, s.fieldFound? (TJ17 4).1 (TJ17 4).2.1 (TJ17 4).2.2.1 = some x → s.fieldFound? ref (TJ17 4).2.1 (TJ17 4).2.2.1 = some x) (hdg : decode cc pc = .ok (.putfield index, 3)) (kk : ∀ h' : zz_H, TM g h0 h' t K N V L R P C ro z md → zz_J p l e Rm s m args below meth c g nL Q h' mc ms (pc + 3) loc rest) : zz_J p l e Rm s m args below meth c g nL Q h mc ms pc loc (.int (nI z) :: .ref t :: rest) :=
  zj_put X in_J17 tyJ17 tyJ17_ok nmJ17 rfl 4 (by decide) hlink hsame rfl hT.o rfl rfl (Nat.le_of_ble_eq_true rfl) (Or.inr (by decide)) hdg (kk _ (hT.ut ro z md))
theorem tm_md (X : zz_X l g y cc nL ret p s m args meth c) (hT : TM g h0 h t K N V L R P C ro sz md) (z : Int32) {index : Nat} {ref : String} (hlink : Cond.fieldLink y.cls index ref (TJ17 5).2.1 (TJ17 5).2.2.1 ∈ lw_all) (hsame : ∀ x, s.fieldFound? (TJ17 5).1 (TJ17 5).2.1 (TJ17 5).2.2.1 = some x → s.fieldFound? ref (TJ17 5).2.1 (TJ17 5).2.2.1 = some x) (hdg : decode cc pc = .ok (.putfield index, 3)) (kk : ∀ h' : zz_H, TM g h0 h' t K N V L R P C ro sz z → zz_J p l e Rm s m args below meth c g nL Q h' mc ms (pc + 3) loc rest) : zz_J p l e Rm s m args below meth c g nL Q h mc ms pc loc (.int z :: .ref t :: rest) :=
  zj_put X in_J17 tyJ17 tyJ17_ok nmJ17 rfl 5 (by decide) hlink hsame rfl hT.o rfl rfl (Nat.le_of_ble_eq_true rfl) (Or.inr (by decide)) hdg (kk _ (hT.ut ro sz z))
end ZT
