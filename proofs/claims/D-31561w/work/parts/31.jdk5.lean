set_option maxRecDepth 100000
/-! THE LIBRARY: TreeMap, the repair after an insertion -/
section FX
variable {K : Nat → Bool} {ro : Option Nat} {L R P : Nat → Option Nat} {lo hi : Nat → Nat}
theorem oK {K : Nat → Bool} {x : Nat} (h : K x = true) : ∀ j, some x = some j → K j = true := fun j hj => by cases hj; exact h
theorem tW_p (H : tW K ro L R P lo hi) {x : Nat} (hx : K x = true) (e : ¬ ro = some x) : ∃ p, P x = some p ∧ K p = true := by
  obtain ⟨a, b, c, d, e, f, g, h, i⟩ := H
  cases hq : P x with
  | none => grind
  | some q => grind
theorem tW_oL (H : tW K ro L R P lo hi) {x : Nat} (hx : K x = true) : ∀ j, L x = some j → K j = true := fun j hj => (H.2.2.2.1 x j hx hj).1
theorem tW_oR (H : tW K ro L R P lo hi) {x : Nat} (hx : K x = true) : ∀ j, R x = some j → K j = true := fun j hj => (H.2.2.2.2.1 x j hx hj).1
theorem fx_g {C : Nat → Bool} (H : tW K ro L R P lo hi) {x p : Nat} (hx : K x = true) (hp : P x = some p) (hro : ∀ r, ro = some r → r = x ∨ C r = true) (hC : C p = false) : ∃ q, P p = some q ∧ K q = true := by
  obtain ⟨a, b, c, d, e, f, g, h, i⟩ := H
  cases hq : P p with
  | none => grind
  | some q => grind
theorem fx_c {C : Nat → Bool} {o : Option Nat} : ∃ b : Bool, (o = none → b = true) ∧ ∀ j, o = some j → b = C j := by
  cases o with
  | none => exact ⟨true, fun _ => rfl, fun j hj => by cases hj⟩
  | some j => exact ⟨C j, fun h => (by cases h), fun k hk => by cases hk; rfl⟩
theorem fx_u {C : Nat → Bool} {o : Option Nat} {b : Bool} (h1 : o = none → b = true) (h2 : ∀ j, o = some j → b = C j) (hb : b = false) : ∃ u, o = some u ∧ C u = false := by
  cases o with
  | none => rw [h1 rfl] at hb; cases hb
  | some j => exact ⟨j, rfl, by rw [← h2 j rfl]; exact hb⟩
theorem fx_A (H : tW K ro L R P lo hi) {x p q : Nat} (hx : K x = true) (hp : P x = some p) (hq : P p = some q) (hL : L q = some p) (hR : R p = some x) : rl3 L P p x p = some x ∧ rl3 L P p x x = some q ∧ rl1 L P p x q = some x ∧ rl3 (rl2 L R P p x) (rl3 L P p x) q x p = some x ∧ ¬ x = q ∧ ∀ r, rlo (rl3 L P p x) (rlo P ro p x) q x = some r → r = x ∨ (ro = some r ∧ ¬ r = q) := by
  obtain ⟨a, b, c, d, e, f, g, h, i⟩ := H
  have hK : K p = true := by grind
  have hKq : K q = true := by grind
  have h1 := d q p hKq hL
  have h2 := e p x hK hR
  have h3 := a q hKq
  have h4 := a p hK
  have h5 := a x hx
  refine ⟨by grind [rl3], by grind [rl3], by grind [rl1], ?_, by omega, ?_⟩
  · grind [rl1, rl2, rl3]
  · grind [rlo, rl3]
theorem fx_B (H : tW K ro L R P lo hi) {x p q : Nat} (hx : K x = true) (hp : P x = some p) (hq : P p = some q) (hL : L q = some p) (hR : ¬ R p = some x) : rl3 R P q p x = some p ∧ ¬ p = q ∧ ∀ r, rlo P ro q p = some r → r = p ∨ (ro = some r ∧ ¬ r = q) := by
  obtain ⟨a, b, c, d, e, f, g, h, i⟩ := H
  have hK : K p = true := by grind
  have hKq : K q = true := by grind
  have h1 := d q p hKq hL
  have h3 := a q hKq
  have h4 := a p hK
  have h5 := a x hx
  refine ⟨by grind [rl3], by omega, ?_⟩
  · grind [rlo, rl3]
theorem fx_A' (H : tW K ro L R P lo hi) {x p q : Nat} (hx : K x = true) (hp : P x = some p) (hq : P p = some q) (hL : R q = some p) (hR : L p = some x) : rl3 R P p x p = some x ∧ rl3 R P p x x = some q ∧ rl1 R P p x q = some x ∧ rl3 (rl2 R L P p x) (rl3 R P p x) q x p = some x ∧ ¬ x = q ∧ ∀ r, rlo (rl3 R P p x) (rlo P ro p x) q x = some r → r = x ∨ (ro = some r ∧ ¬ r = q) := by
  obtain ⟨a, b, c, d, e, f, g, h, i⟩ := H
  have hK : K p = true := by grind
  have hKq : K q = true := by grind
  have h1 := e q p hKq hL
  have h2 := d p x hK hR
  have h3 := a q hKq
  have h4 := a p hK
  have h5 := a x hx
  refine ⟨by grind [rl3], by grind [rl3], by grind [rl1], ?_, by omega, ?_⟩
  · grind [rl1, rl2, rl3]
  · grind [rlo, rl3]
theorem fx_B' (H : tW K ro L R P lo hi) {x p q : Nat} (hx : K x = true) (hp : P x = some p) (hq : P p = some q) (hL : R q = some p) (hR : ¬ L p = some x) : rl3 L P q p x = some p ∧ ¬ p = q ∧ ∀ r, rlo P ro q p = some r → r = p ∨ (ro = some r ∧ ¬ r = q) := by
  obtain ⟨a, b, c, d, e, f, g, h, i⟩ := H
  have hK : K p = true := by grind
  have hKq : K q = true := by grind
  have h1 := e q p hKq hL
  have h3 := a q hKq
  have h4 := a p hK
  have h5 := a x hx
  refine ⟨by grind [rl3], by omega, ?_⟩
  · grind [rlo, rl3]
theorem fx_r {ro : Option Nat} {C : Nat → Bool} {x p q r u : Nat} (hro : ∀ r, ro = some r → r = x ∨ C r = true) (hne : ¬ ro = some x) (h : ro = some r) : r = q ∨ fu (fu (fu C p true) u true) q false r = true := by
  grind [fu]
theorem fx_r2 {ro ro' : Option Nat} {C : Nat → Bool} {x p q z r : Nat} (hro : ∀ r, ro = some r → r = x ∨ C r = true) (hne : ¬ ro = some x) (hpq : ¬ p = q) (h2 : ∀ r, ro' = some r → r = p ∨ (ro = some r ∧ ¬ r = q)) (h : ro' = some r) : r = z ∨ fu (fu C p true) q false r = true := by
  grind [fu]
theorem fx_t {C : Nat → Bool} {p q : Nat} (h : ¬ p = q) : fu (fu C p true) q false p = true := by grind [fu]
end FX
/-- the map with a tree that is in order, its root black -/
def TMX (g : zz_G) (h0 h : zz_H) (t : Nat) (K : Nat → Bool) (N V : Nat → Nat) (sz : Nat) (md : Int32) : Prop := ∃ L R P C ro lo hi, TM g h0 h t K N V L R P C ro sz md ∧ tW K ro L R P lo hi ∧ ∀ r, ro = some r → C r = true

set_option maxHeartbeats 4000000 in
theorem cj_fix (l : Launch) (g : zz_G) {h0 h : zz_H} {t : Nat} {K : Nat → Bool} {N V : Nat → Nat} {L R P : Nat → Option Nat} {C : Nat → Bool} {ro : Option Nat} {sz : Nat} {md : Int32} (hT : TM g h0 h t K N V L R P C ro sz md) {lo hi : Nat → Nat} (hW : tW K ro L R P lo hi) {x : Nat} (hx : K x = true) (hro : ∀ r, ro = some r → r = x ∨ C r = true) : zz_C l g yJ17_fixAfterInsertion cJ17_fixAfterInsertion 3 none (zz_rm 2 42 0 0) [.ref t, .ref (N x)] h (fun v h' => v = none ∧ TMX g h0 h' t K N V sz md) := by
  refine zz_C.of (by decide) (Nat.le_of_ble_eq_true rfl) (fun pP eE sS mM aA bB tT cC X Q hQ => ?_)
  refine zj_aload_n X dJ17_fixAfterInsertion_0 rfl ?_
  refine zj_iconst (v := 0) X dJ17_fixAfterInsertion_1 rfl ?_
  refine tm_pC X hT hx (false) q1010 (fun _ h => h) dJ17_fixAfterInsertion_2 (fun h9 hT => ?_)
  have L_5 : ∀ k_5 : Nat, ∀ (h : zz_H) (L R P : Nat → Option Nat) (C : Nat → Bool) (ro : Option Nat) (lo hi : Nat → Nat) (x : Nat), TM g h0 h t K N V L R P C ro sz md → tW K ro L R P lo hi → K x = true → (∀ r, ro = some r → r = x ∨ C r = true) → (17 ≤ hi x - lo x + k_5 ∨ (1 ≤ k_5 ∧ ∃ p, P x = some p ∧ C p = true)) → zz_J pP l eE (zz_rm 2 42 0 0) sS mM aA bB tT cC g 3 Q h 0 0 5 [(0, .ref t), (1, .ref (N x))] [] := by
    intro k_5
    induction k_5 with
    | zero =>
      intro h L R P C ro lo hi x hT hW hx hro hfu
      have := hW.1 x hx
      rcases hfu with z | z
      · omega
      · exact absurd z.1 (by omega)
    | succ k_5 ih_5 =>
      intro h L R P C ro lo hi x hT hW hx hro hfu
      refine zj_aload_n X dJ17_fixAfterInsertion_5 rfl ?_
      refine zj_ifnull (r := some _) (tgt := 258) X dJ17_fixAfterInsertion_6 (by decide) (fun c => by cases c) (fun a_6 c_6 => ?_)
      refine zj_aload_n X dJ17_fixAfterInsertion_9 rfl ?_
      refine zj_aload_n X dJ17_fixAfterInsertion_10 rfl ?_
      refine zj_get X in_J17 rfl 3 (by decide) q676 (fun _ h => h) (hT.o) rfl (Or.inr (by decide)) dJ17_fixAfterInsertion_11 ?_
      refine zj_acmp_eq (rx := some _) (tgt := 258) X dJ17_fixAfterInsertion_14 (by decide) (fun c_14 => ?_) (fun c_14 => ?_)
      · obtain ⟨r, hr, hKr⟩ : ∃ r, ro = some r ∧ K r = true := by
          cases hz : ro with
          | none => rw [hW.2.1 hz x] at hx; cases hx
          | some r => exact ⟨r, rfl, (hW.2.2.1 r hz).1⟩
        refine zj_aload_n X dJ17_fixAfterInsertion_258 rfl ?_
        refine zj_get X in_J17 rfl 3 (by decide) q676 (fun _ h => h) (hT.o) rfl (Or.inr (by decide)) dJ17_fixAfterInsertion_259 ?_
        rw [hr]
        refine zj_iconst (v := 1) X dJ17_fixAfterInsertion_262 rfl ?_
        refine tm_pC X hT hKr (true) q1010 (fun _ h => h) dJ17_fixAfterInsertion_263 (fun h9 hT => ?_)
        exact zj_vret X hQ (⟨rfl, _, _, _, _, _, _, _, hT, hW, fun z hz => by cases hr.symm.trans hz; exact fu_s⟩) rfl (Nat.le_of_ble_eq_true rfl) (Nat.le_of_ble_eq_true rfl) dJ17_fixAfterInsertion_266
      · have e_14 : ¬ ro = some x := fun z => c_14 (by rw [z]; rfl)
        refine zj_aload_n X dJ17_fixAfterInsertion_17 rfl ?_
        refine zj_get X in_J25 rfl 4 (by decide) q1008 (fun _ h => h) (hT.e hx) rfl (Or.inl (by decide)) dJ17_fixAfterInsertion_18 ?_
        obtain ⟨p, hp, hKp⟩ := tW_p hW hx e_14
        rw [hp]
        refine zj_get X in_J25 rfl 5 (by decide) q1010 (fun _ h => h) (hT.e hKp) rfl (Or.inl (by decide)) dJ17_fixAfterInsertion_21 ?_
        refine zj_if_ne (tgt := 258) X dJ17_fixAfterInsertion_24 (by decide) (fun c_24 => ?_) (fun c_24 => ?_)
        · obtain ⟨r, hr, hKr⟩ : ∃ r, ro = some r ∧ K r = true := by
            cases hz : ro with
            | none => rw [hW.2.1 hz x] at hx; cases hx
            | some r => exact ⟨r, rfl, (hW.2.2.1 r hz).1⟩
          refine zj_aload_n X dJ17_fixAfterInsertion_258 rfl ?_
          refine zj_get X in_J17 rfl 3 (by decide) q676 (fun _ h => h) (hT.o) rfl (Or.inr (by decide)) dJ17_fixAfterInsertion_259 ?_
          rw [hr]
          refine zj_iconst (v := 1) X dJ17_fixAfterInsertion_262 rfl ?_
          refine tm_pC X hT hKr (true) q1010 (fun _ h => h) dJ17_fixAfterInsertion_263 (fun h9 hT => ?_)
          exact zj_vret X hQ (⟨rfl, _, _, _, _, _, _, _, hT, hW, fun z hz => by cases hr.symm.trans hz; exact fu_s⟩) rfl (Nat.le_of_ble_eq_true rfl) (Nat.le_of_ble_eq_true rfl) dJ17_fixAfterInsertion_266
        · have e_24 : C p = false := zb_0.mp c_24
          obtain ⟨q, hq, hKq⟩ := fx_g hW hx hp hro e_24
          have hfu := hfu.resolve_right (fun ⟨_, p2, z1, z2⟩ => by rw [hp] at z1; cases z1; rw [e_24] at z2; cases z2)
          have hk1 : 1 ≤ k_5 := by have := hW.1 q hKq; have := tW_wP hW hx hp; have := tW_wP hW hKp hq; omega
          refine zj_aload_n X dJ17_fixAfterInsertion_27 rfl ?_
          refine zj_callSp (n := 1) (As := [_]) X (cj_parentOf l g hT (o := (some x)) (o2 := (some p)) (oK hx) hp) ⟨by decide, by decide, by decide +kernel⟩ (lw_S q1032 q1033 q68 q1034) ⟨Nat.le_of_ble_eq_true rfl, Nat.le_of_ble_eq_true rfl⟩ rfl rfl (Nat.le_of_ble_eq_true rfl) ⟨Nat.le_of_ble_eq_true rfl, Nat.le_of_ble_eq_true rfl⟩ dJ17_fixAfterInsertion_28 ?_
          refine zj_aload_n X dJ17_fixAfterInsertion_31 rfl ?_
          refine zj_callSp (n := 1) (As := [_]) X (cj_parentOf l g hT (o := (some x)) (o2 := (some p)) (oK hx) hp) ⟨by decide, by decide, by decide +kernel⟩ (lw_S q1032 q1033 q68 q1034) ⟨Nat.le_of_ble_eq_true rfl, Nat.le_of_ble_eq_true rfl⟩ rfl rfl (Nat.le_of_ble_eq_true rfl) ⟨Nat.le_of_ble_eq_true rfl, Nat.le_of_ble_eq_true rfl⟩ dJ17_fixAfterInsertion_32 ?_
          refine zj_callSp (n := 1) (As := [_]) X (cj_parentOf l g hT (o := (some p)) (o2 := (some q)) (oK hKp) hq) ⟨by decide, by decide, by decide +kernel⟩ (lw_S q1032 q1033 q68 q1034) ⟨Nat.le_of_ble_eq_true rfl, Nat.le_of_ble_eq_true rfl⟩ rfl rfl (Nat.le_of_ble_eq_true rfl) ⟨Nat.le_of_ble_eq_true rfl, Nat.le_of_ble_eq_true rfl⟩ dJ17_fixAfterInsertion_35 ?_
          refine zj_callSp (n := 1) (As := [_]) X (cj_leftOf l g hT (o := (some q)) (o2 := (L q)) (oK hKq) rfl) ⟨by decide, by decide, by decide +kernel⟩ (lw_S q1035 q1036 q68 q1037) ⟨Nat.le_of_ble_eq_true rfl, Nat.le_of_ble_eq_true rfl⟩ rfl rfl (Nat.le_of_ble_eq_true rfl) ⟨Nat.le_of_ble_eq_true rfl, Nat.le_of_ble_eq_true rfl⟩ dJ17_fixAfterInsertion_38 ?_
          refine zj_acmp_ne (tgt := 151) X dJ17_fixAfterInsertion_41 (by decide) (fun c_41 => ?_) (fun c_41 => ?_)
          · have hL : R q = some p := by
              rcases (hW.2.2.2.2.2.1 p q hKp hq).2 with z | z
              · exact absurd (by rw [z]) c_41
              · exact z
            refine zj_aload_n X dJ17_fixAfterInsertion_151 rfl ?_
            refine zj_callSp (n := 1) (As := [_]) X (cj_parentOf l g hT (o := (some x)) (o2 := (some p)) (oK hx) hp) ⟨by decide, by decide, by decide +kernel⟩ (lw_S q1032 q1033 q68 q1034) ⟨Nat.le_of_ble_eq_true rfl, Nat.le_of_ble_eq_true rfl⟩ rfl rfl (Nat.le_of_ble_eq_true rfl) ⟨Nat.le_of_ble_eq_true rfl, Nat.le_of_ble_eq_true rfl⟩ dJ17_fixAfterInsertion_152 ?_
            refine zj_callSp (n := 1) (As := [_]) X (cj_parentOf l g hT (o := (some p)) (o2 := (some q)) (oK hKp) hq) ⟨by decide, by decide, by decide +kernel⟩ (lw_S q1032 q1033 q68 q1034) ⟨Nat.le_of_ble_eq_true rfl, Nat.le_of_ble_eq_true rfl⟩ rfl rfl (Nat.le_of_ble_eq_true rfl) ⟨Nat.le_of_ble_eq_true rfl, Nat.le_of_ble_eq_true rfl⟩ dJ17_fixAfterInsertion_155 ?_
            refine zj_callSp (n := 1) (As := [_]) X (cj_leftOf l g hT (o := (some q)) (o2 := (L q)) (oK hKq) rfl) ⟨by decide, by decide, by decide +kernel⟩ (lw_S q1035 q1036 q68 q1037) ⟨Nat.le_of_ble_eq_true rfl, Nat.le_of_ble_eq_true rfl⟩ rfl rfl (Nat.le_of_ble_eq_true rfl) ⟨Nat.le_of_ble_eq_true rfl, Nat.le_of_ble_eq_true rfl⟩ dJ17_fixAfterInsertion_158 ?_
            refine zj_astore_nq X dJ17_fixAfterInsertion_161 (by decide) ?_
            obtain ⟨ub, hu1, hu2⟩ := fx_c (C := C) (o := L q)
            refine zj_aload_nq X dJ17_fixAfterInsertion_162 rfl ?_
            refine zj_callSp (n := 1) (As := [_]) X (cj_colorOf l g hT (o := L q) (b := ub) (tW_oL hW hKq) hu1 hu2) ⟨by decide, by decide, by decide +kernel⟩ (lw_S q1041 q1042 q68 q1043) ⟨Nat.le_of_ble_eq_true rfl, Nat.le_of_ble_eq_true rfl⟩ rfl rfl (Nat.le_of_ble_eq_true rfl) ⟨Nat.le_of_ble_eq_true rfl, Nat.le_of_ble_eq_true rfl⟩ dJ17_fixAfterInsertion_163 ?_
            refine zj_if_ne (tgt := 204) X dJ17_fixAfterInsertion_166 (by decide) (fun c_166 => ?_) (fun c_166 => ?_)
            · have e_59 := zb_n.mp c_166
              refine zj_aload_n X dJ17_fixAfterInsertion_204 rfl ?_
              refine zj_aload_n X dJ17_fixAfterInsertion_205 rfl ?_
              refine zj_callSp (n := 1) (As := [_]) X (cj_parentOf l g hT (o := (some x)) (o2 := (some p)) (oK hx) hp) ⟨by decide, by decide, by decide +kernel⟩ (lw_S q1032 q1033 q68 q1034) ⟨Nat.le_of_ble_eq_true rfl, Nat.le_of_ble_eq_true rfl⟩ rfl rfl (Nat.le_of_ble_eq_true rfl) ⟨Nat.le_of_ble_eq_true rfl, Nat.le_of_ble_eq_true rfl⟩ dJ17_fixAfterInsertion_206 ?_
              refine zj_callSp (n := 1) (As := [_]) X (cj_leftOf l g hT (o := (some p)) (o2 := (L p)) (oK hKp) rfl) ⟨by decide, by decide, by decide +kernel⟩ (lw_S q1035 q1036 q68 q1037) ⟨Nat.le_of_ble_eq_true rfl, Nat.le_of_ble_eq_true rfl⟩ rfl rfl (Nat.le_of_ble_eq_true rfl) ⟨Nat.le_of_ble_eq_true rfl, Nat.le_of_ble_eq_true rfl⟩ dJ17_fixAfterInsertion_209 ?_
              refine zj_acmp_ne (rx := some _) (tgt := 225) X dJ17_fixAfterInsertion_212 (by decide) (fun c_212 => ?_) (fun c_212 => ?_)
              · have hRp : ¬ L p = some x := fun z => c_212 (by rw [z]; rfl)
                refine zj_aload_n X dJ17_fixAfterInsertion_225 rfl ?_
                refine zj_callSp (n := 1) (As := [_]) X (cj_parentOf l g hT (o := (some x)) (o2 := (some p)) (oK hx) hp) ⟨by decide, by decide, by decide +kernel⟩ (lw_S q1032 q1033 q68 q1034) ⟨Nat.le_of_ble_eq_true rfl, Nat.le_of_ble_eq_true rfl⟩ rfl rfl (Nat.le_of_ble_eq_true rfl) ⟨Nat.le_of_ble_eq_true rfl, Nat.le_of_ble_eq_true rfl⟩ dJ17_fixAfterInsertion_226 ?_
                refine zj_iconst (v := 1) X dJ17_fixAfterInsertion_229 rfl ?_
                refine zj_callS (n := 2) (As := [_, _]) X (cj_setColor l g hT (o := (some p)) true (oK hKp)) ⟨by decide, by decide, by decide +kernel⟩ (lw_S q1044 q1045 q68 q1046) ⟨Nat.le_of_ble_eq_true rfl, Nat.le_of_ble_eq_true rfl⟩ rfl rfl (Nat.le_of_ble_eq_true rfl) ⟨Nat.le_of_ble_eq_true rfl, Nat.le_of_ble_eq_true rfl⟩ dJ17_fixAfterInsertion_230 (fun v_230 h_230 p_230 => ?_)
                obtain ⟨rfl, C1, hT, -, hC1⟩ := p_230
                have hC1 := hC1 p rfl
                subst hC1
                refine zj_aload_n X dJ17_fixAfterInsertion_233 rfl ?_
                refine zj_callSp (n := 1) (As := [_]) X (cj_parentOf l g hT (o := (some x)) (o2 := (some p)) (oK hx) hp) ⟨by decide, by decide, by decide +kernel⟩ (lw_S q1032 q1033 q68 q1034) ⟨Nat.le_of_ble_eq_true rfl, Nat.le_of_ble_eq_true rfl⟩ rfl rfl (Nat.le_of_ble_eq_true rfl) ⟨Nat.le_of_ble_eq_true rfl, Nat.le_of_ble_eq_true rfl⟩ dJ17_fixAfterInsertion_234 ?_
                refine zj_callSp (n := 1) (As := [_]) X (cj_parentOf l g hT (o := (some p)) (o2 := (some q)) (oK hKp) hq) ⟨by decide, by decide, by decide +kernel⟩ (lw_S q1032 q1033 q68 q1034) ⟨Nat.le_of_ble_eq_true rfl, Nat.le_of_ble_eq_true rfl⟩ rfl rfl (Nat.le_of_ble_eq_true rfl) ⟨Nat.le_of_ble_eq_true rfl, Nat.le_of_ble_eq_true rfl⟩ dJ17_fixAfterInsertion_237 ?_
                refine zj_iconst (v := 0) X dJ17_fixAfterInsertion_240 rfl ?_
                refine zj_callS (n := 2) (As := [_, _]) X (cj_setColor l g hT (o := (some q)) false (oK hKq)) ⟨by decide, by decide, by decide +kernel⟩ (lw_S q1044 q1045 q68 q1046) ⟨Nat.le_of_ble_eq_true rfl, Nat.le_of_ble_eq_true rfl⟩ rfl rfl (Nat.le_of_ble_eq_true rfl) ⟨Nat.le_of_ble_eq_true rfl, Nat.le_of_ble_eq_true rfl⟩ dJ17_fixAfterInsertion_241 (fun v_241 h_241 p_241 => ?_)
                obtain ⟨rfl, C2, hT, -, hC2⟩ := p_241
                have hC2 := hC2 q rfl
                subst hC2
                refine zj_aload_n X dJ17_fixAfterInsertion_244 rfl ?_
                refine zj_aload_n X dJ17_fixAfterInsertion_245 rfl ?_
                refine zj_callSp (n := 1) (As := [_]) X (cj_parentOf l g hT (o := (some x)) (o2 := (some p)) (oK hx) hp) ⟨by decide, by decide, by decide +kernel⟩ (lw_S q1032 q1033 q68 q1034) ⟨Nat.le_of_ble_eq_true rfl, Nat.le_of_ble_eq_true rfl⟩ rfl rfl (Nat.le_of_ble_eq_true rfl) ⟨Nat.le_of_ble_eq_true rfl, Nat.le_of_ble_eq_true rfl⟩ dJ17_fixAfterInsertion_246 ?_
                refine zj_callSp (n := 1) (As := [_]) X (cj_parentOf l g hT (o := (some p)) (o2 := (some q)) (oK hKp) hq) ⟨by decide, by decide, by decide +kernel⟩ (lw_S q1032 q1033 q68 q1034) ⟨Nat.le_of_ble_eq_true rfl, Nat.le_of_ble_eq_true rfl⟩ rfl rfl (Nat.le_of_ble_eq_true rfl) ⟨Nat.le_of_ble_eq_true rfl, Nat.le_of_ble_eq_true rfl⟩ dJ17_fixAfterInsertion_249 ?_
                refine zj_callV (n := 1) (As := [_]) X (cj_rotateLeft l g hT hW hKq hL) hT.o rfl rfl ⟨by decide, by decide, by decide +kernel⟩ (lw_V q1047 q1049 qs20 q68 q1050) ⟨Nat.le_of_ble_eq_true rfl, Nat.le_of_ble_eq_true rfl⟩ rfl rfl (Nat.le_of_ble_eq_true rfl) ⟨Nat.le_of_ble_eq_true rfl, Nat.le_of_ble_eq_true rfl⟩ dJ17_fixAfterInsertion_252 (fun v_252 h_252 p_252 => ?_)
                obtain ⟨rfl, hT⟩ := p_252
                have hW3 := tW_rl hW hKq hL
                obtain ⟨f4, f5, f6⟩ := fx_B' hW hx hp hq hL hRp
                refine zj_goto (tgt := 5) X dJ17_fixAfterInsertion_255 (by decide) ?_
                exact zj_lo (ih_5 _ _ _ _ _ _ _ _ x hT hW3 hx (fun r hr => fx_r2 hro e_14 f5 f6 hr) (Or.inr ⟨hk1, _, f4, fx_t f5⟩)) ⟨rfl, rfl, trivial⟩
              · have hRp : L p = some x := (hT.inj' (oK hx) (tW_oL hW hKp) c_212).symm
                refine zj_aload_n X dJ17_fixAfterInsertion_215 rfl ?_
                refine zj_callSp (n := 1) (As := [_]) X (cj_parentOf l g hT (o := (some x)) (o2 := (some p)) (oK hx) hp) ⟨by decide, by decide, by decide +kernel⟩ (lw_S q1032 q1033 q68 q1034) ⟨Nat.le_of_ble_eq_true rfl, Nat.le_of_ble_eq_true rfl⟩ rfl rfl (Nat.le_of_ble_eq_true rfl) ⟨Nat.le_of_ble_eq_true rfl, Nat.le_of_ble_eq_true rfl⟩ dJ17_fixAfterInsertion_216 ?_
                refine zj_astore_n X dJ17_fixAfterInsertion_219 (by decide) ?_
                refine zj_aload_n X dJ17_fixAfterInsertion_220 rfl ?_
                refine zj_aload_n X dJ17_fixAfterInsertion_221 rfl ?_
                refine zj_callV (n := 1) (As := [_]) X (cj_rotateRight l g hT hW hKp hRp) hT.o rfl rfl ⟨by decide, by decide, by decide +kernel⟩ (lw_V q1051 q1053 qs21 q68 q1054) ⟨Nat.le_of_ble_eq_true rfl, Nat.le_of_ble_eq_true rfl⟩ rfl rfl (Nat.le_of_ble_eq_true rfl) ⟨Nat.le_of_ble_eq_true rfl, Nat.le_of_ble_eq_true rfl⟩ dJ17_fixAfterInsertion_222 (fun v_222 h_222 p_222 => ?_)
                obtain ⟨rfl, hT⟩ := p_222
                have hW2 := tW_rr hW hKp hRp
                obtain ⟨f1, f2, f3, f4, f5, f6⟩ := fx_A' hW hx hp hq hL hRp
                refine zj_aload_n X dJ17_fixAfterInsertion_225 rfl ?_
                refine zj_callSp (n := 1) (As := [_]) X (cj_parentOf l g hT (o := (some p)) (o2 := (some x)) (oK hKp) f1) ⟨by decide, by decide, by decide +kernel⟩ (lw_S q1032 q1033 q68 q1034) ⟨Nat.le_of_ble_eq_true rfl, Nat.le_of_ble_eq_true rfl⟩ rfl rfl (Nat.le_of_ble_eq_true rfl) ⟨Nat.le_of_ble_eq_true rfl, Nat.le_of_ble_eq_true rfl⟩ dJ17_fixAfterInsertion_226 ?_
                refine zj_iconst (v := 1) X dJ17_fixAfterInsertion_229 rfl ?_
                refine zj_callS (n := 2) (As := [_, _]) X (cj_setColor l g hT (o := (some x)) true (oK hx)) ⟨by decide, by decide, by decide +kernel⟩ (lw_S q1044 q1045 q68 q1046) ⟨Nat.le_of_ble_eq_true rfl, Nat.le_of_ble_eq_true rfl⟩ rfl rfl (Nat.le_of_ble_eq_true rfl) ⟨Nat.le_of_ble_eq_true rfl, Nat.le_of_ble_eq_true rfl⟩ dJ17_fixAfterInsertion_230 (fun v_230 h_230 p_230 => ?_)
                obtain ⟨rfl, C1, hT, -, hC1⟩ := p_230
                have hC1 := hC1 x rfl
                subst hC1
                refine zj_aload_n X dJ17_fixAfterInsertion_233 rfl ?_
                refine zj_callSp (n := 1) (As := [_]) X (cj_parentOf l g hT (o := (some p)) (o2 := (some x)) (oK hKp) f1) ⟨by decide, by decide, by decide +kernel⟩ (lw_S q1032 q1033 q68 q1034) ⟨Nat.le_of_ble_eq_true rfl, Nat.le_of_ble_eq_true rfl⟩ rfl rfl (Nat.le_of_ble_eq_true rfl) ⟨Nat.le_of_ble_eq_true rfl, Nat.le_of_ble_eq_true rfl⟩ dJ17_fixAfterInsertion_234 ?_
                refine zj_callSp (n := 1) (As := [_]) X (cj_parentOf l g hT (o := (some x)) (o2 := (some q)) (oK hx) f2) ⟨by decide, by decide, by decide +kernel⟩ (lw_S q1032 q1033 q68 q1034) ⟨Nat.le_of_ble_eq_true rfl, Nat.le_of_ble_eq_true rfl⟩ rfl rfl (Nat.le_of_ble_eq_true rfl) ⟨Nat.le_of_ble_eq_true rfl, Nat.le_of_ble_eq_true rfl⟩ dJ17_fixAfterInsertion_237 ?_
                refine zj_iconst (v := 0) X dJ17_fixAfterInsertion_240 rfl ?_
                refine zj_callS (n := 2) (As := [_, _]) X (cj_setColor l g hT (o := (some q)) false (oK hKq)) ⟨by decide, by decide, by decide +kernel⟩ (lw_S q1044 q1045 q68 q1046) ⟨Nat.le_of_ble_eq_true rfl, Nat.le_of_ble_eq_true rfl⟩ rfl rfl (Nat.le_of_ble_eq_true rfl) ⟨Nat.le_of_ble_eq_true rfl, Nat.le_of_ble_eq_true rfl⟩ dJ17_fixAfterInsertion_241 (fun v_241 h_241 p_241 => ?_)
                obtain ⟨rfl, C2, hT, -, hC2⟩ := p_241
                have hC2 := hC2 q rfl
                subst hC2
                refine zj_aload_n X dJ17_fixAfterInsertion_244 rfl ?_
                refine zj_aload_n X dJ17_fixAfterInsertion_245 rfl ?_
                refine zj_callSp (n := 1) (As := [_]) X (cj_parentOf l g hT (o := (some p)) (o2 := (some x)) (oK hKp) f1) ⟨by decide, by decide, by decide +kernel⟩ (lw_S q1032 q1033 q68 q1034) ⟨Nat.le_of_ble_eq_true rfl, Nat.le_of_ble_eq_true rfl⟩ rfl rfl (Nat.le_of_ble_eq_true rfl) ⟨Nat.le_of_ble_eq_true rfl, Nat.le_of_ble_eq_true rfl⟩ dJ17_fixAfterInsertion_246 ?_
                refine zj_callSp (n := 1) (As := [_]) X (cj_parentOf l g hT (o := (some x)) (o2 := (some q)) (oK hx) f2) ⟨by decide, by decide, by decide +kernel⟩ (lw_S q1032 q1033 q68 q1034) ⟨Nat.le_of_ble_eq_true rfl, Nat.le_of_ble_eq_true rfl⟩ rfl rfl (Nat.le_of_ble_eq_true rfl) ⟨Nat.le_of_ble_eq_true rfl, Nat.le_of_ble_eq_true rfl⟩ dJ17_fixAfterInsertion_249 ?_
                refine zj_callV (n := 1) (As := [_]) X (cj_rotateLeft l g hT hW2 hKq f3) hT.o rfl rfl ⟨by decide, by decide, by decide +kernel⟩ (lw_V q1047 q1049 qs20 q68 q1050) ⟨Nat.le_of_ble_eq_true rfl, Nat.le_of_ble_eq_true rfl⟩ rfl rfl (Nat.le_of_ble_eq_true rfl) ⟨Nat.le_of_ble_eq_true rfl, Nat.le_of_ble_eq_true rfl⟩ dJ17_fixAfterInsertion_252 (fun v_252 h_252 p_252 => ?_)
                obtain ⟨rfl, hT⟩ := p_252
                have hW3 := tW_rl hW2 hKq f3
                refine zj_goto (tgt := 5) X dJ17_fixAfterInsertion_255 (by decide) ?_
                exact zj_lo (ih_5 _ _ _ _ _ _ _ _ p hT hW3 hKp (fun r hr => fx_r2 hro e_14 f5 f6 hr) (Or.inr ⟨hk1, _, f4, fx_t f5⟩)) ⟨rfl, rfl, trivial⟩
            · obtain ⟨u, hu, hCu⟩ := fx_u hu1 hu2 (zb_0.mp c_166)
              refine zj_aload_n X dJ17_fixAfterInsertion_169 rfl ?_
              refine zj_callSp (n := 1) (As := [_]) X (cj_parentOf l g hT (o := (some x)) (o2 := (some p)) (oK hx) hp) ⟨by decide, by decide, by decide +kernel⟩ (lw_S q1032 q1033 q68 q1034) ⟨Nat.le_of_ble_eq_true rfl, Nat.le_of_ble_eq_true rfl⟩ rfl rfl (Nat.le_of_ble_eq_true rfl) ⟨Nat.le_of_ble_eq_true rfl, Nat.le_of_ble_eq_true rfl⟩ dJ17_fixAfterInsertion_170 ?_
              refine zj_iconst (v := 1) X dJ17_fixAfterInsertion_173 rfl ?_
              refine zj_callS (n := 2) (As := [_, _]) X (cj_setColor l g hT (o := (some p)) true (oK hKp)) ⟨by decide, by decide, by decide +kernel⟩ (lw_S q1044 q1045 q68 q1046) ⟨Nat.le_of_ble_eq_true rfl, Nat.le_of_ble_eq_true rfl⟩ rfl rfl (Nat.le_of_ble_eq_true rfl) ⟨Nat.le_of_ble_eq_true rfl, Nat.le_of_ble_eq_true rfl⟩ dJ17_fixAfterInsertion_174 (fun v_174 h_174 p_174 => ?_)
              obtain ⟨rfl, C1, hT, -, hC1⟩ := p_174
              have hC1 := hC1 p rfl
              subst hC1
              refine zj_aload_nq X dJ17_fixAfterInsertion_177 rfl ?_
              refine zj_iconst (v := 1) X dJ17_fixAfterInsertion_178 rfl ?_
              refine zj_callS (n := 2) (As := [_, _]) X (cj_setColor l g hT (o := (L q)) true (tW_oL hW hKq)) ⟨by decide, by decide, by decide +kernel⟩ (lw_S q1044 q1045 q68 q1046) ⟨Nat.le_of_ble_eq_true rfl, Nat.le_of_ble_eq_true rfl⟩ rfl rfl (Nat.le_of_ble_eq_true rfl) ⟨Nat.le_of_ble_eq_true rfl, Nat.le_of_ble_eq_true rfl⟩ dJ17_fixAfterInsertion_179 (fun v_179 h_179 p_179 => ?_)
              obtain ⟨rfl, C2, hT, -, hC2⟩ := p_179
              have hC2 := hC2 u hu
              subst hC2
              refine zj_aload_n X dJ17_fixAfterInsertion_182 rfl ?_
              refine zj_callSp (n := 1) (As := [_]) X (cj_parentOf l g hT (o := (some x)) (o2 := (some p)) (oK hx) hp) ⟨by decide, by decide, by decide +kernel⟩ (lw_S q1032 q1033 q68 q1034) ⟨Nat.le_of_ble_eq_true rfl, Nat.le_of_ble_eq_true rfl⟩ rfl rfl (Nat.le_of_ble_eq_true rfl) ⟨Nat.le_of_ble_eq_true rfl, Nat.le_of_ble_eq_true rfl⟩ dJ17_fixAfterInsertion_183 ?_
              refine zj_callSp (n := 1) (As := [_]) X (cj_parentOf l g hT (o := (some p)) (o2 := (some q)) (oK hKp) hq) ⟨by decide, by decide, by decide +kernel⟩ (lw_S q1032 q1033 q68 q1034) ⟨Nat.le_of_ble_eq_true rfl, Nat.le_of_ble_eq_true rfl⟩ rfl rfl (Nat.le_of_ble_eq_true rfl) ⟨Nat.le_of_ble_eq_true rfl, Nat.le_of_ble_eq_true rfl⟩ dJ17_fixAfterInsertion_186 ?_
              refine zj_iconst (v := 0) X dJ17_fixAfterInsertion_189 rfl ?_
              refine zj_callS (n := 2) (As := [_, _]) X (cj_setColor l g hT (o := (some q)) false (oK hKq)) ⟨by decide, by decide, by decide +kernel⟩ (lw_S q1044 q1045 q68 q1046) ⟨Nat.le_of_ble_eq_true rfl, Nat.le_of_ble_eq_true rfl⟩ rfl rfl (Nat.le_of_ble_eq_true rfl) ⟨Nat.le_of_ble_eq_true rfl, Nat.le_of_ble_eq_true rfl⟩ dJ17_fixAfterInsertion_190 (fun v_190 h_190 p_190 => ?_)
              obtain ⟨rfl, C3, hT, -, hC3⟩ := p_190
              have hC3 := hC3 q rfl
              subst hC3
              refine zj_aload_n X dJ17_fixAfterInsertion_193 rfl ?_
              refine zj_callSp (n := 1) (As := [_]) X (cj_parentOf l g hT (o := (some x)) (o2 := (some p)) (oK hx) hp) ⟨by decide, by decide, by decide +kernel⟩ (lw_S q1032 q1033 q68 q1034) ⟨Nat.le_of_ble_eq_true rfl, Nat.le_of_ble_eq_true rfl⟩ rfl rfl (Nat.le_of_ble_eq_true rfl) ⟨Nat.le_of_ble_eq_true rfl, Nat.le_of_ble_eq_true rfl⟩ dJ17_fixAfterInsertion_194 ?_
              refine zj_callSp (n := 1) (As := [_]) X (cj_parentOf l g hT (o := (some p)) (o2 := (some q)) (oK hKp) hq) ⟨by decide, by decide, by decide +kernel⟩ (lw_S q1032 q1033 q68 q1034) ⟨Nat.le_of_ble_eq_true rfl, Nat.le_of_ble_eq_true rfl⟩ rfl rfl (Nat.le_of_ble_eq_true rfl) ⟨Nat.le_of_ble_eq_true rfl, Nat.le_of_ble_eq_true rfl⟩ dJ17_fixAfterInsertion_197 ?_
              refine zj_astore_n X dJ17_fixAfterInsertion_200 (by decide) ?_
              refine zj_goto (tgt := 255) X dJ17_fixAfterInsertion_201 (by decide) ?_
              refine zj_goto (tgt := 5) X dJ17_fixAfterInsertion_255 (by decide) ?_
              exact zj_lo (ih_5 _ _ _ _ _ _ _ _ q hT hW hKq (fun r hr => fx_r hro e_14 hr) (Or.inl (by have := tW_wP hW hx hp; have := tW_wP hW hKp hq; omega))) ⟨rfl, rfl, trivial⟩
          · have hL : L q = some p := (hT.inj' (oK hKp) (tW_oL hW hKq) c_41).symm
            refine zj_aload_n X dJ17_fixAfterInsertion_44 rfl ?_
            refine zj_callSp (n := 1) (As := [_]) X (cj_parentOf l g hT (o := (some x)) (o2 := (some p)) (oK hx) hp) ⟨by decide, by decide, by decide +kernel⟩ (lw_S q1032 q1033 q68 q1034) ⟨Nat.le_of_ble_eq_true rfl, Nat.le_of_ble_eq_true rfl⟩ rfl rfl (Nat.le_of_ble_eq_true rfl) ⟨Nat.le_of_ble_eq_true rfl, Nat.le_of_ble_eq_true rfl⟩ dJ17_fixAfterInsertion_45 ?_
            refine zj_callSp (n := 1) (As := [_]) X (cj_parentOf l g hT (o := (some p)) (o2 := (some q)) (oK hKp) hq) ⟨by decide, by decide, by decide +kernel⟩ (lw_S q1032 q1033 q68 q1034) ⟨Nat.le_of_ble_eq_true rfl, Nat.le_of_ble_eq_true rfl⟩ rfl rfl (Nat.le_of_ble_eq_true rfl) ⟨Nat.le_of_ble_eq_true rfl, Nat.le_of_ble_eq_true rfl⟩ dJ17_fixAfterInsertion_48 ?_
            refine zj_callSp (n := 1) (As := [_]) X (cj_rightOf l g hT (o := (some q)) (o2 := (R q)) (oK hKq) rfl) ⟨by decide, by decide, by decide +kernel⟩ (lw_S q1038 q1039 q68 q1040) ⟨Nat.le_of_ble_eq_true rfl, Nat.le_of_ble_eq_true rfl⟩ rfl rfl (Nat.le_of_ble_eq_true rfl) ⟨Nat.le_of_ble_eq_true rfl, Nat.le_of_ble_eq_true rfl⟩ dJ17_fixAfterInsertion_51 ?_
            refine zj_astore_nq X dJ17_fixAfterInsertion_54 (by decide) ?_
            obtain ⟨ub, hu1, hu2⟩ := fx_c (C := C) (o := R q)
            refine zj_aload_nq X dJ17_fixAfterInsertion_55 rfl ?_
            refine zj_callSp (n := 1) (As := [_]) X (cj_colorOf l g hT (o := R q) (b := ub) (tW_oR hW hKq) hu1 hu2) ⟨by decide, by decide, by decide +kernel⟩ (lw_S q1041 q1042 q68 q1043) ⟨Nat.le_of_ble_eq_true rfl, Nat.le_of_ble_eq_true rfl⟩ rfl rfl (Nat.le_of_ble_eq_true rfl) ⟨Nat.le_of_ble_eq_true rfl, Nat.le_of_ble_eq_true rfl⟩ dJ17_fixAfterInsertion_56 ?_
            refine zj_if_ne (tgt := 97) X dJ17_fixAfterInsertion_59 (by decide) (fun c_59 => ?_) (fun c_59 => ?_)
            · have e_59 := zb_n.mp c_59
              refine zj_aload_n X dJ17_fixAfterInsertion_97 rfl ?_
              refine zj_aload_n X dJ17_fixAfterInsertion_98 rfl ?_
              refine zj_callSp (n := 1) (As := [_]) X (cj_parentOf l g hT (o := (some x)) (o2 := (some p)) (oK hx) hp) ⟨by decide, by decide, by decide +kernel⟩ (lw_S q1032 q1033 q68 q1034) ⟨Nat.le_of_ble_eq_true rfl, Nat.le_of_ble_eq_true rfl⟩ rfl rfl (Nat.le_of_ble_eq_true rfl) ⟨Nat.le_of_ble_eq_true rfl, Nat.le_of_ble_eq_true rfl⟩ dJ17_fixAfterInsertion_99 ?_
              refine zj_callSp (n := 1) (As := [_]) X (cj_rightOf l g hT (o := (some p)) (o2 := (R p)) (oK hKp) rfl) ⟨by decide, by decide, by decide +kernel⟩ (lw_S q1038 q1039 q68 q1040) ⟨Nat.le_of_ble_eq_true rfl, Nat.le_of_ble_eq_true rfl⟩ rfl rfl (Nat.le_of_ble_eq_true rfl) ⟨Nat.le_of_ble_eq_true rfl, Nat.le_of_ble_eq_true rfl⟩ dJ17_fixAfterInsertion_102 ?_
              refine zj_acmp_ne (rx := some _) (tgt := 118) X dJ17_fixAfterInsertion_105 (by decide) (fun c_105 => ?_) (fun c_105 => ?_)
              · have hRp : ¬ R p = some x := fun z => c_105 (by rw [z]; rfl)
                refine zj_aload_n X dJ17_fixAfterInsertion_118 rfl ?_
                refine zj_callSp (n := 1) (As := [_]) X (cj_parentOf l g hT (o := (some x)) (o2 := (some p)) (oK hx) hp) ⟨by decide, by decide, by decide +kernel⟩ (lw_S q1032 q1033 q68 q1034) ⟨Nat.le_of_ble_eq_true rfl, Nat.le_of_ble_eq_true rfl⟩ rfl rfl (Nat.le_of_ble_eq_true rfl) ⟨Nat.le_of_ble_eq_true rfl, Nat.le_of_ble_eq_true rfl⟩ dJ17_fixAfterInsertion_119 ?_
                refine zj_iconst (v := 1) X dJ17_fixAfterInsertion_122 rfl ?_
                refine zj_callS (n := 2) (As := [_, _]) X (cj_setColor l g hT (o := (some p)) true (oK hKp)) ⟨by decide, by decide, by decide +kernel⟩ (lw_S q1044 q1045 q68 q1046) ⟨Nat.le_of_ble_eq_true rfl, Nat.le_of_ble_eq_true rfl⟩ rfl rfl (Nat.le_of_ble_eq_true rfl) ⟨Nat.le_of_ble_eq_true rfl, Nat.le_of_ble_eq_true rfl⟩ dJ17_fixAfterInsertion_123 (fun v_123 h_123 p_123 => ?_)
                obtain ⟨rfl, C1, hT, -, hC1⟩ := p_123
                have hC1 := hC1 p rfl
                subst hC1
                refine zj_aload_n X dJ17_fixAfterInsertion_126 rfl ?_
                refine zj_callSp (n := 1) (As := [_]) X (cj_parentOf l g hT (o := (some x)) (o2 := (some p)) (oK hx) hp) ⟨by decide, by decide, by decide +kernel⟩ (lw_S q1032 q1033 q68 q1034) ⟨Nat.le_of_ble_eq_true rfl, Nat.le_of_ble_eq_true rfl⟩ rfl rfl (Nat.le_of_ble_eq_true rfl) ⟨Nat.le_of_ble_eq_true rfl, Nat.le_of_ble_eq_true rfl⟩ dJ17_fixAfterInsertion_127 ?_
                refine zj_callSp (n := 1) (As := [_]) X (cj_parentOf l g hT (o := (some p)) (o2 := (some q)) (oK hKp) hq) ⟨by decide, by decide, by decide +kernel⟩ (lw_S q1032 q1033 q68 q1034) ⟨Nat.le_of_ble_eq_true rfl, Nat.le_of_ble_eq_true rfl⟩ rfl rfl (Nat.le_of_ble_eq_true rfl) ⟨Nat.le_of_ble_eq_true rfl, Nat.le_of_ble_eq_true rfl⟩ dJ17_fixAfterInsertion_130 ?_
                refine zj_iconst (v := 0) X dJ17_fixAfterInsertion_133 rfl ?_
                refine zj_callS (n := 2) (As := [_, _]) X (cj_setColor l g hT (o := (some q)) false (oK hKq)) ⟨by decide, by decide, by decide +kernel⟩ (lw_S q1044 q1045 q68 q1046) ⟨Nat.le_of_ble_eq_true rfl, Nat.le_of_ble_eq_true rfl⟩ rfl rfl (Nat.le_of_ble_eq_true rfl) ⟨Nat.le_of_ble_eq_true rfl, Nat.le_of_ble_eq_true rfl⟩ dJ17_fixAfterInsertion_134 (fun v_134 h_134 p_134 => ?_)
                obtain ⟨rfl, C2, hT, -, hC2⟩ := p_134
                have hC2 := hC2 q rfl
                subst hC2
                refine zj_aload_n X dJ17_fixAfterInsertion_137 rfl ?_
                refine zj_aload_n X dJ17_fixAfterInsertion_138 rfl ?_
                refine zj_callSp (n := 1) (As := [_]) X (cj_parentOf l g hT (o := (some x)) (o2 := (some p)) (oK hx) hp) ⟨by decide, by decide, by decide +kernel⟩ (lw_S q1032 q1033 q68 q1034) ⟨Nat.le_of_ble_eq_true rfl, Nat.le_of_ble_eq_true rfl⟩ rfl rfl (Nat.le_of_ble_eq_true rfl) ⟨Nat.le_of_ble_eq_true rfl, Nat.le_of_ble_eq_true rfl⟩ dJ17_fixAfterInsertion_139 ?_
                refine zj_callSp (n := 1) (As := [_]) X (cj_parentOf l g hT (o := (some p)) (o2 := (some q)) (oK hKp) hq) ⟨by decide, by decide, by decide +kernel⟩ (lw_S q1032 q1033 q68 q1034) ⟨Nat.le_of_ble_eq_true rfl, Nat.le_of_ble_eq_true rfl⟩ rfl rfl (Nat.le_of_ble_eq_true rfl) ⟨Nat.le_of_ble_eq_true rfl, Nat.le_of_ble_eq_true rfl⟩ dJ17_fixAfterInsertion_142 ?_
                refine zj_callV (n := 1) (As := [_]) X (cj_rotateRight l g hT hW hKq hL) hT.o rfl rfl ⟨by decide, by decide, by decide +kernel⟩ (lw_V q1051 q1053 qs21 q68 q1054) ⟨Nat.le_of_ble_eq_true rfl, Nat.le_of_ble_eq_true rfl⟩ rfl rfl (Nat.le_of_ble_eq_true rfl) ⟨Nat.le_of_ble_eq_true rfl, Nat.le_of_ble_eq_true rfl⟩ dJ17_fixAfterInsertion_145 (fun v_145 h_145 p_145 => ?_)
                obtain ⟨rfl, hT⟩ := p_145
                have hW3 := tW_rr hW hKq hL
                obtain ⟨f4, f5, f6⟩ := fx_B hW hx hp hq hL hRp
                refine zj_goto (tgt := 5) X dJ17_fixAfterInsertion_148 (by decide) ?_
                exact zj_lo (ih_5 _ _ _ _ _ _ _ _ x hT hW3 hx (fun r hr => fx_r2 hro e_14 f5 f6 hr) (Or.inr ⟨hk1, _, f4, fx_t f5⟩)) ⟨rfl, rfl, trivial⟩
              · have hRp : R p = some x := (hT.inj' (oK hx) (tW_oR hW hKp) c_105).symm
                refine zj_aload_n X dJ17_fixAfterInsertion_108 rfl ?_
                refine zj_callSp (n := 1) (As := [_]) X (cj_parentOf l g hT (o := (some x)) (o2 := (some p)) (oK hx) hp) ⟨by decide, by decide, by decide +kernel⟩ (lw_S q1032 q1033 q68 q1034) ⟨Nat.le_of_ble_eq_true rfl, Nat.le_of_ble_eq_true rfl⟩ rfl rfl (Nat.le_of_ble_eq_true rfl) ⟨Nat.le_of_ble_eq_true rfl, Nat.le_of_ble_eq_true rfl⟩ dJ17_fixAfterInsertion_109 ?_
                refine zj_astore_n X dJ17_fixAfterInsertion_112 (by decide) ?_
                refine zj_aload_n X dJ17_fixAfterInsertion_113 rfl ?_
                refine zj_aload_n X dJ17_fixAfterInsertion_114 rfl ?_
                refine zj_callV (n := 1) (As := [_]) X (cj_rotateLeft l g hT hW hKp hRp) hT.o rfl rfl ⟨by decide, by decide, by decide +kernel⟩ (lw_V q1047 q1049 qs20 q68 q1050) ⟨Nat.le_of_ble_eq_true rfl, Nat.le_of_ble_eq_true rfl⟩ rfl rfl (Nat.le_of_ble_eq_true rfl) ⟨Nat.le_of_ble_eq_true rfl, Nat.le_of_ble_eq_true rfl⟩ dJ17_fixAfterInsertion_115 (fun v_115 h_115 p_115 => ?_)
                obtain ⟨rfl, hT⟩ := p_115
                have hW2 := tW_rl hW hKp hRp
                obtain ⟨f1, f2, f3, f4, f5, f6⟩ := fx_A hW hx hp hq hL hRp
                refine zj_aload_n X dJ17_fixAfterInsertion_118 rfl ?_
                refine zj_callSp (n := 1) (As := [_]) X (cj_parentOf l g hT (o := (some p)) (o2 := (some x)) (oK hKp) f1) ⟨by decide, by decide, by decide +kernel⟩ (lw_S q1032 q1033 q68 q1034) ⟨Nat.le_of_ble_eq_true rfl, Nat.le_of_ble_eq_true rfl⟩ rfl rfl (Nat.le_of_ble_eq_true rfl) ⟨Nat.le_of_ble_eq_true rfl, Nat.le_of_ble_eq_true rfl⟩ dJ17_fixAfterInsertion_119 ?_
                refine zj_iconst (v := 1) X dJ17_fixAfterInsertion_122 rfl ?_
                refine zj_callS (n := 2) (As := [_, _]) X (cj_setColor l g hT (o := (some x)) true (oK hx)) ⟨by decide, by decide, by decide +kernel⟩ (lw_S q1044 q1045 q68 q1046) ⟨Nat.le_of_ble_eq_true rfl, Nat.le_of_ble_eq_true rfl⟩ rfl rfl (Nat.le_of_ble_eq_true rfl) ⟨Nat.le_of_ble_eq_true rfl, Nat.le_of_ble_eq_true rfl⟩ dJ17_fixAfterInsertion_123 (fun v_123 h_123 p_123 => ?_)
                obtain ⟨rfl, C1, hT, -, hC1⟩ := p_123
                have hC1 := hC1 x rfl
                subst hC1
                refine zj_aload_n X dJ17_fixAfterInsertion_126 rfl ?_
                refine zj_callSp (n := 1) (As := [_]) X (cj_parentOf l g hT (o := (some p)) (o2 := (some x)) (oK hKp) f1) ⟨by decide, by decide, by decide +kernel⟩ (lw_S q1032 q1033 q68 q1034) ⟨Nat.le_of_ble_eq_true rfl, Nat.le_of_ble_eq_true rfl⟩ rfl rfl (Nat.le_of_ble_eq_true rfl) ⟨Nat.le_of_ble_eq_true rfl, Nat.le_of_ble_eq_true rfl⟩ dJ17_fixAfterInsertion_127 ?_
                refine zj_callSp (n := 1) (As := [_]) X (cj_parentOf l g hT (o := (some x)) (o2 := (some q)) (oK hx) f2) ⟨by decide, by decide, by decide +kernel⟩ (lw_S q1032 q1033 q68 q1034) ⟨Nat.le_of_ble_eq_true rfl, Nat.le_of_ble_eq_true rfl⟩ rfl rfl (Nat.le_of_ble_eq_true rfl) ⟨Nat.le_of_ble_eq_true rfl, Nat.le_of_ble_eq_true rfl⟩ dJ17_fixAfterInsertion_130 ?_
                refine zj_iconst (v := 0) X dJ17_fixAfterInsertion_133 rfl ?_
                refine zj_callS (n := 2) (As := [_, _]) X (cj_setColor l g hT (o := (some q)) false (oK hKq)) ⟨by decide, by decide, by decide +kernel⟩ (lw_S q1044 q1045 q68 q1046) ⟨Nat.le_of_ble_eq_true rfl, Nat.le_of_ble_eq_true rfl⟩ rfl rfl (Nat.le_of_ble_eq_true rfl) ⟨Nat.le_of_ble_eq_true rfl, Nat.le_of_ble_eq_true rfl⟩ dJ17_fixAfterInsertion_134 (fun v_134 h_134 p_134 => ?_)
                obtain ⟨rfl, C2, hT, -, hC2⟩ := p_134
                have hC2 := hC2 q rfl
                subst hC2
                refine zj_aload_n X dJ17_fixAfterInsertion_137 rfl ?_
                refine zj_aload_n X dJ17_fixAfterInsertion_138 rfl ?_
                refine zj_callSp (n := 1) (As := [_]) X (cj_parentOf l g hT (o := (some p)) (o2 := (some x)) (oK hKp) f1) ⟨by decide, by decide, by decide +kernel⟩ (lw_S q1032 q1033 q68 q1034) ⟨Nat.le_of_ble_eq_true rfl, Nat.le_of_ble_eq_true rfl⟩ rfl rfl (Nat.le_of_ble_eq_true rfl) ⟨Nat.le_of_ble_eq_true rfl, Nat.le_of_ble_eq_true rfl⟩ dJ17_fixAfterInsertion_139 ?_
                refine zj_callSp (n := 1) (As := [_]) X (cj_parentOf l g hT (o := (some x)) (o2 := (some q)) (oK hx) f2) ⟨by decide, by decide, by decide +kernel⟩ (lw_S q1032 q1033 q68 q1034) ⟨Nat.le_of_ble_eq_true rfl, Nat.le_of_ble_eq_true rfl⟩ rfl rfl (Nat.le_of_ble_eq_true rfl) ⟨Nat.le_of_ble_eq_true rfl, Nat.le_of_ble_eq_true rfl⟩ dJ17_fixAfterInsertion_142 ?_
                refine zj_callV (n := 1) (As := [_]) X (cj_rotateRight l g hT hW2 hKq f3) hT.o rfl rfl ⟨by decide, by decide, by decide +kernel⟩ (lw_V q1051 q1053 qs21 q68 q1054) ⟨Nat.le_of_ble_eq_true rfl, Nat.le_of_ble_eq_true rfl⟩ rfl rfl (Nat.le_of_ble_eq_true rfl) ⟨Nat.le_of_ble_eq_true rfl, Nat.le_of_ble_eq_true rfl⟩ dJ17_fixAfterInsertion_145 (fun v_145 h_145 p_145 => ?_)
                obtain ⟨rfl, hT⟩ := p_145
                have hW3 := tW_rr hW2 hKq f3
                refine zj_goto (tgt := 5) X dJ17_fixAfterInsertion_148 (by decide) ?_
                exact zj_lo (ih_5 _ _ _ _ _ _ _ _ p hT hW3 hKp (fun r hr => fx_r2 hro e_14 f5 f6 hr) (Or.inr ⟨hk1, _, f4, fx_t f5⟩)) ⟨rfl, rfl, trivial⟩
            · obtain ⟨u, hu, hCu⟩ := fx_u hu1 hu2 (zb_0.mp c_59)
              refine zj_aload_n X dJ17_fixAfterInsertion_62 rfl ?_
              refine zj_callSp (n := 1) (As := [_]) X (cj_parentOf l g hT (o := (some x)) (o2 := (some p)) (oK hx) hp) ⟨by decide, by decide, by decide +kernel⟩ (lw_S q1032 q1033 q68 q1034) ⟨Nat.le_of_ble_eq_true rfl, Nat.le_of_ble_eq_true rfl⟩ rfl rfl (Nat.le_of_ble_eq_true rfl) ⟨Nat.le_of_ble_eq_true rfl, Nat.le_of_ble_eq_true rfl⟩ dJ17_fixAfterInsertion_63 ?_
              refine zj_iconst (v := 1) X dJ17_fixAfterInsertion_66 rfl ?_
              refine zj_callS (n := 2) (As := [_, _]) X (cj_setColor l g hT (o := (some p)) true (oK hKp)) ⟨by decide, by decide, by decide +kernel⟩ (lw_S q1044 q1045 q68 q1046) ⟨Nat.le_of_ble_eq_true rfl, Nat.le_of_ble_eq_true rfl⟩ rfl rfl (Nat.le_of_ble_eq_true rfl) ⟨Nat.le_of_ble_eq_true rfl, Nat.le_of_ble_eq_true rfl⟩ dJ17_fixAfterInsertion_67 (fun v_67 h_67 p_67 => ?_)
              obtain ⟨rfl, C1, hT, -, hC1⟩ := p_67
              have hC1 := hC1 p rfl
              subst hC1
              refine zj_aload_nq X dJ17_fixAfterInsertion_70 rfl ?_
              refine zj_iconst (v := 1) X dJ17_fixAfterInsertion_71 rfl ?_
              refine zj_callS (n := 2) (As := [_, _]) X (cj_setColor l g hT (o := (R q)) true (tW_oR hW hKq)) ⟨by decide, by decide, by decide +kernel⟩ (lw_S q1044 q1045 q68 q1046) ⟨Nat.le_of_ble_eq_true rfl, Nat.le_of_ble_eq_true rfl⟩ rfl rfl (Nat.le_of_ble_eq_true rfl) ⟨Nat.le_of_ble_eq_true rfl, Nat.le_of_ble_eq_true rfl⟩ dJ17_fixAfterInsertion_72 (fun v_72 h_72 p_72 => ?_)
              obtain ⟨rfl, C2, hT, -, hC2⟩ := p_72
              have hC2 := hC2 u hu
              subst hC2
              refine zj_aload_n X dJ17_fixAfterInsertion_75 rfl ?_
              refine zj_callSp (n := 1) (As := [_]) X (cj_parentOf l g hT (o := (some x)) (o2 := (some p)) (oK hx) hp) ⟨by decide, by decide, by decide +kernel⟩ (lw_S q1032 q1033 q68 q1034) ⟨Nat.le_of_ble_eq_true rfl, Nat.le_of_ble_eq_true rfl⟩ rfl rfl (Nat.le_of_ble_eq_true rfl) ⟨Nat.le_of_ble_eq_true rfl, Nat.le_of_ble_eq_true rfl⟩ dJ17_fixAfterInsertion_76 ?_
              refine zj_callSp (n := 1) (As := [_]) X (cj_parentOf l g hT (o := (some p)) (o2 := (some q)) (oK hKp) hq) ⟨by decide, by decide, by decide +kernel⟩ (lw_S q1032 q1033 q68 q1034) ⟨Nat.le_of_ble_eq_true rfl, Nat.le_of_ble_eq_true rfl⟩ rfl rfl (Nat.le_of_ble_eq_true rfl) ⟨Nat.le_of_ble_eq_true rfl, Nat.le_of_ble_eq_true rfl⟩ dJ17_fixAfterInsertion_79 ?_
              refine zj_iconst (v := 0) X dJ17_fixAfterInsertion_82 rfl ?_
              refine zj_callS (n := 2) (As := [_, _]) X (cj_setColor l g hT (o := (some q)) false (oK hKq)) ⟨by decide, by decide, by decide +kernel⟩ (lw_S q1044 q1045 q68 q1046) ⟨Nat.le_of_ble_eq_true rfl, Nat.le_of_ble_eq_true rfl⟩ rfl rfl (Nat.le_of_ble_eq_true rfl) ⟨Nat.le_of_ble_eq_true rfl, Nat.le_of_ble_eq_true rfl⟩ dJ17_fixAfterInsertion_83 (fun v_83 h_83 p_83 => ?_)
              obtain ⟨rfl, C3, hT, -, hC3⟩ := p_83
              have hC3 := hC3 q rfl
              subst hC3
              refine zj_aload_n X dJ17_fixAfterInsertion_86 rfl ?_
              refine zj_callSp (n := 1) (As := [_]) X (cj_parentOf l g hT (o := (some x)) (o2 := (some p)) (oK hx) hp) ⟨by decide, by decide, by decide +kernel⟩ (lw_S q1032 q1033 q68 q1034) ⟨Nat.le_of_ble_eq_true rfl, Nat.le_of_ble_eq_true rfl⟩ rfl rfl (Nat.le_of_ble_eq_true rfl) ⟨Nat.le_of_ble_eq_true rfl, Nat.le_of_ble_eq_true rfl⟩ dJ17_fixAfterInsertion_87 ?_
              refine zj_callSp (n := 1) (As := [_]) X (cj_parentOf l g hT (o := (some p)) (o2 := (some q)) (oK hKp) hq) ⟨by decide, by decide, by decide +kernel⟩ (lw_S q1032 q1033 q68 q1034) ⟨Nat.le_of_ble_eq_true rfl, Nat.le_of_ble_eq_true rfl⟩ rfl rfl (Nat.le_of_ble_eq_true rfl) ⟨Nat.le_of_ble_eq_true rfl, Nat.le_of_ble_eq_true rfl⟩ dJ17_fixAfterInsertion_90 ?_
              refine zj_astore_n X dJ17_fixAfterInsertion_93 (by decide) ?_
              refine zj_goto (tgt := 148) X dJ17_fixAfterInsertion_94 (by decide) ?_
              refine zj_goto (tgt := 5) X dJ17_fixAfterInsertion_148 (by decide) ?_
              exact zj_lo (ih_5 _ _ _ _ _ _ _ _ q hT hW hKq (fun r hr => fx_r hro e_14 hr) (Or.inl (by have := tW_wP hW hx hp; have := tW_wP hW hKp hq; omega))) ⟨rfl, rfl, trivial⟩
  exact zj_lo (L_5 17 _ _ _ _ _ _ _ _ x hT hW hx (fun r hr => by rcases Nat.decEq r x with z | z; exact Or.inr (by rw [fu_n z]; exact (hro r hr).resolve_left z); exact Or.inl z) (Or.inl (by omega))) ⟨rfl, rfl, trivial⟩

