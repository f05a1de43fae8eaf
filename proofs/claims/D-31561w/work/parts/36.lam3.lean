set_option maxRecDepth 100000
/-! CALLS OF LAMBDAS: the class that captures a work and an int -/
theorem lmw_0 : decode ⟨#[42, 180, 0, 17, 42, 180, 0, 19, 43, 182, 0, 27, 172]⟩ 0 = .ok (.aload_n 0, 1) := by decide +kernel
theorem lmw_1 : decode ⟨#[42, 180, 0, 17, 42, 180, 0, 19, 43, 182, 0, 27, 172]⟩ 1 = .ok (.getfield 17, 3) := by decide +kernel
theorem lmw_4 : decode ⟨#[42, 180, 0, 17, 42, 180, 0, 19, 43, 182, 0, 27, 172]⟩ 4 = .ok (.aload_n 0, 1) := by decide +kernel
theorem lmw_5 : decode ⟨#[42, 180, 0, 17, 42, 180, 0, 19, 43, 182, 0, 27, 172]⟩ 5 = .ok (.getfield 19, 3) := by decide +kernel
theorem lmw_8 : decode ⟨#[42, 180, 0, 17, 42, 180, 0, 19, 43, 182, 0, 27, 172]⟩ 8 = .ok (.aload_n 1, 1) := by decide +kernel
theorem lmw_9 : decode ⟨#[42, 180, 0, 17, 42, 180, 0, 19, 43, 182, 0, 27, 172]⟩ 9 = .ok (.invokevirtual 27, 3) := by decide +kernel
theorem lmw_12 : decode ⟨#[42, 180, 0, 17, 42, 180, 0, 19, 43, 182, 0, 27, 172]⟩ 12 = .ok (.ireturn, 1) := by decide +kernel
def lmL : Array Field × Array FieldType × Array FieldType := (layoutFields (lmD (zz_sh 4) "Peerpanel$Work") 0).getD (#[], #[], #[])
theorem lmL_ok : (layoutFields (lmD (zz_sh 4) "Peerpanel$Work") 0).isSome = true := by decide +kernel
theorem lmL_0 : (lmL.1[0]?).map (fun f => (f.slot, f.isStatic)) = some (0, false) := by decide +kernel
theorem lmL_1 : (lmL.1[1]?).map (fun f => (f.slot, f.isStatic)) = some (1, false) := by decide +kernel
theorem lmL_t : lmL.2.1 = #[.object "Peerpanel$Work", .int] := by decide +kernel
theorem lmL_i : lmL.1.findIdx? (fun x => x.name == "arg$1") = some 0 ∧ lmL.1.findIdx? (fun x => x.name == "arg$2") = some 1 := by decide +kernel
theorem lmL_c : (lmD (zz_sh 4) "Peerpanel$Work").constantPool[17]? = some (.fieldref 2 16) ∧ (lmD (zz_sh 4) "Peerpanel$Work").constantPool.nameAndType? 16 = some ("arg$1", "LPeerpanel$Work;") ∧ (lmD (zz_sh 4) "Peerpanel$Work").constantPool[19]? = some (.fieldref 2 18) ∧ (lmD (zz_sh 4) "Peerpanel$Work").constantPool.nameAndType? 18 = some ("arg$2", "I") := by
  refine ⟨?_, ?_, ?_, ?_⟩ <;> decide +kernel
/-- the fields of the class that captures -/
theorem lam_fields {e : Setting} {vm : Vm} {d c cO : ClassId} {dk kO : Class} (hd : vm.classes[d]? = some dk) (hname : dk.name = "Peerpanel$Work") (h : Lambda.isMade e vm d (zz_sh 4) c = true) (hO : vm.findClass "java/lang/Object" = some cO) (hkO : vm.classes[cO]? = some kO) (hO0 : kO.instanceTypes.size = 0) :
    ∃ (k : Class) (f0 f1 : Field), vm.classes[c]? = some k ∧ k.instanceTypes = #[.object "Peerpanel$Work", .int] ∧ k.kind = .ordinary ∧ k.hidden.isSome = true ∧ vm.fieldReady c 17 c f0 ∧ f0.slot = 0 ∧ f0.isStatic = false ∧ vm.fieldReady c 19 c f1 ∧ f1.slot = 1 ∧ f1.isStatic = false := by
  obtain ⟨dk', k, ok, tk, file, cf, object, iface, toy, lay, methods, target, found, hd', hk, hfile, hcf, hobj, hif, hok, hlay, hms, ht, htk, hg, hfound, hrec, -, hhid, -, -, hpool, hmeth, hfld, hty, hres, hsel⟩ := Lambda.isMade_spec h
  cases hd.symm.trans hd'
  cases hO.symm.trans hobj
  cases hkO.symm.trans hok
  have hD : (zz_sh 4).file "Peerpanel$Work" = some (lmD (zz_sh 4) "Peerpanel$Work") := by
    obtain ⟨x, hx⟩ := Option.isSome_iff_exists.mp lm_4.1
    simp [lmD, hx]
  rw [hname, hD] at hcf
  cases hcf
  rw [hO0] at hlay
  have hL : lay = lmL := by
    simp [lmL, hlay]
  subst hL
  have hemp : kO.instanceTypes = #[] := Array.eq_empty_of_size_eq_zero hO0
  have h0 := lmL_0
  have h1 := lmL_1
  cases hf0 : lmL.1[0]? with
  | none => rw [hf0] at h0; cases h0
  | some f0 =>
    cases hf1 : lmL.1[1]? with
    | none => rw [hf1] at h1; cases h1
    | some f1 =>
      rw [hf0] at h0
      rw [hf1] at h1
      simp only [Option.map_some, Option.some.injEq, Prod.mk.injEq] at h0 h1
      obtain ⟨c1, c2, c3, c4⟩ := lmL_c
      refine ⟨k, f0, f1, hk, by rw [hty.1, hemp, lmL_t]; rfl, hrec.2.1, hhid, ⟨k, 0, k, hk, hres 17 _ (Lambda.resolvedOf_field c1 c2 lmL_i.1), hk, hfld 0 f0 hf0⟩, h0.1, h0.2, ⟨k, 1, k, hk, hres 19 _ (Lambda.resolvedOf_field c3 c4 lmL_i.2), hk, hfld 1 f1 hf1⟩, h1.1, h1.2⟩
theorem lam_run4 {p : Program} {l : Launch} {e : Env} {R : Room} {s : State} {m : MethodId} {args : Array Value} {below : List Frame} {meth : Method} {c : Code} {g : zz_G} {y : MethodName} {cc : ByteArray} {nL : Nat} {ret : Option FieldType} {h : zz_H} {mc ms pc : Nat} {rest : List Value} (X : zz_X l g y cc nL ret p s m args meth c)
    {x0 : MethodName} {pc0 ix : Nat} {cK : ClassId} {one : Option Addr} (hLs : zz_Ls s x0 pc0 ix (zz_sh 4) cK one) (hxn : x0.cls = "Peerpanel$Work") {x : MethodName} (hIf : zz_If x s) (hx1 : (zz_sh 4).iface = x.cls) (hx2 : (zz_sh 4).name = x.name) (hx3 : (zz_sh 4).sam.toString = x.desc) (hlen : (parseMethodDescriptor x.desc).map (fun d => d.parameters.length) = some 1)
    {y2 : MethodName} {cc2 : ByteArray} {L2 index count : Nat} {rm2 : Room} {b : Bool} {a a1 w : Nat} {mid : Int32} {fs : List Value} (hwk : h w = some (eO 3 fs)) (hy1 : y2.cls = (zz_sh 4).implClass) (hy2 : y2.name = (zz_sh 4).implName) (hy3 : y2.desc = (zz_sh 4).implDesc.toString) (hM : zz_C l g y2 cc2 L2 (some .boolean) rm2 [.ref w, .int mid, .ref a1] h (fun r h' => r = some (.int (zb b)) ∧ h' = h)) (hcode : Cond.code y2 cc2 L2 (some .boolean) ∈ lw_all) (hsel2 : Cond.selects "Peerpanel$Work" y2 y2 ∈ lw_all) (hinst : Cond.instanceMethod y2 ∈ lw_all) (hobj0 : Cond.instantiable "java/lang/Object" 0 ∈ lw_all) (hini : Cond.initialized y2.cls ∈ lw_all) (hnm : y2.cls ≠ "java/lang/invoke/MethodHandle" ∧ y2.cls ≠ "java/lang/invoke/VarHandle") (hlen2 : (parseMethodDescriptor y2.desc).map (fun d => d.parameters.length) = some 2)
    (hlink : Cond.methodLink y.cls index x ∈ lw_all) (hrm : rm2.frames + 2 ≤ R.frames ∧ 8 + (2 + 11) + (8 + (L2 + 11) + rm2.locals) ≤ R.locals) (hf : mc + rm2.cells ≤ R.cells ∧ ms + rm2.slots ≤ R.slots)
    {H : Heap} {locs : List Loc} {ls : Array Slot} (hR : zz_R g H h) (hS : va_S (gF g) s.heap H locs) (hsz : ls.size = nL) (hcell : H[a]? = some { cls := cK, slots := #[.ref w, .int mid], vm := .none }) (hw : (rest.map fun v => v.category).sum ≤ 8) (hdg : decode cc pc = .ok (.invokeinterface index count, 5)) (aa : Array Value) :
    va_Run5 p l e R s m args below meth c H locs mc ms rm2.cells rm2.slots (F0 m pc ls (.ref a1 :: .ref a :: rest)) rest (zz_Q g (fun r h' => r = some (.int (zb b)) ∧ h' = h) aa) (gF g) := by
  intro T hT X1
  obtain ⟨m0, kd, cf0, i0, p0, lk0, hm0, hkd, hcf0, hshape, hfind, hmade, hcall, hl0⟩ := hLs
  obtain ⟨kd', hkd', hnd⟩ := className_of_methodNamed hm0
  cases hkd.symm.trans hkd'
  have hname : kd.name = "Peerpanel$Work" := hnd.trans hxn
  obtain ⟨k, tk, file, methk, ck, toy, iface, t, found, hk, hkn, hfile, hpool, hmk, hck, hbytes, hml, hlk, hfl, hretk, htoy, htk, hlook, hready, hclsR, hif, hfound, hsel⟩ := lam_facts lm_4 hkd hname hmade
  obtain ⟨i2, hi2, hasg, hway⟩ := State.lambdaCallable_spec hcall
  cases hif.symm.trans hi2
  obtain ⟨r0, r, hn0, hrm0, hstR, hsigR⟩ := Cond.declares_spec hIf.1
  obtain ⟨cL, kL, r1, hcL, hkL, hiL, hfoundL, hn1⟩ := Cond.interfaceMethod_spec hIf.2.1
  cases hn0.symm.trans hn1
  have hr0cls : r0.cls = cL := Option.some.inj ((findClass_of_methodNamed hn0).symm.trans hcL)
  obtain ⟨hnameR, hdescR⟩ := name_of_methodNamed hn0 hrm0
  have hci : cL = iface := by rw [hx1] at hif; exact Option.some.inj (hcL.symm.trans hif)
  have hfr : found = r0 := by
    have h1 := hfoundL
    simp only [State.methodFound?, hcL, hkL, hiL, Option.bind_eq_bind, Option.bind_some] at h1
    have h2 : ((methodIn cL x.name x.desc true none).ask { classPath := fun _ => none } s.vm).1 = .ok found := by rw [hci, ← hx2, ← hx3]; exact hfound
    rw [h2] at h1
    exact Option.some.inj h1
  have hlenR : ([.ref a1] : List Value).length = r.sig.parameters.length := by
    rw [hsigR] at hlen
    exact (Option.some.inj hlen).symm
  obtain ⟨vm₁, X₁, hstep₁⟩ := X1.invokeinterface X.1 X.own (X.ts _ hlink) hn0 hrm0 hstR (by rw [hr0cls]; exact hkL) hiL hIf.2.2 (a := a) (kcell := k) (by rw [hT]; exact hcell) (fun z h => by cases h) hk (by rw [hr0cls, hci]; exact hasg)
    (m' := ⟨cK, 1⟩) (meth' := methk) (by rw [Launch.admits_selectMethod X1.admits, ← hfr]; exact hsel) hmk (by rw [hnameR, hdescR, ← hx2, ← hx3]; exact hway) (by rw [hfl]; decide) (by simp [Method.isAbstract, hfl, hasFlag, Acc.abstract])
    (g := F0 m pc ls (.ref a1 :: .ref a :: rest)) rfl (argsL := [.ref a1]) (rest := rest) hlenR rfl (by rw [X.2.1]; exact hdg)
  have hW₁ : s.WarmedH vm₁ := X₁.warmed
  obtain ⟨kd1, hkd1, hed⟩ := hW₁.alike.2.2 _ _ hkd
  obtain ⟨k1, tk1, file1, methk1, ck1, toy1, iface1, t1, found1, hk1, hkn1, hfile1, hpool1, hmk1, hck1, hbytes1, hml1, hlk1, hfl1, hretk1, htoy1, htk1, hlook1, hready1, hclsR1, -, -, -⟩ := lam_facts lm_4 hkd1 (by rw [hed]; exact hname) (Lambda.isMade_warmer hW₁ hmade)
  have hcodeT := X.ts _ hcode
  cases hmT : s.methodNamed? y2 with
  | none => simp [Cond.before, Cond.holds, Cond.value, hmT] at hcodeT
  | some mT =>
  obtain ⟨methT, cT, hmethT, hcT, hbytesT, hlocT, hretT, hlocksT, -, hsigT⟩ := Cond.code_spec hmT hcodeT
  obtain ⟨mT2, methT2, hmT2, hmethT2, hstaticT2, habT⟩ := Cond.instanceMethod_spec (X.ts _ hinst)
  cases hmT.symm.trans hmT2
  cases hmethT.symm.trans hmethT2
  have hstaticT : methT.isStatic = false := hstaticT2
  obtain ⟨kT, hkT, hnameT⟩ := className_of_methodNamed hmT
  have hfT : s.vm.findClass y2.cls = some mT.cls := findClass_of_methodNamed hmT
  have hinitK : kT.init = .initialized := Cond.initialized_spec hfT hkT (X.ts _ hini)
  have hfT1 : vm₁.findClass (zz_sh 4).implClass = some mT.cls := by rw [hW₁.alike.findClass, ← hy1]; exact hfT
  cases htoy1.symm.trans hfT1
  have ht1 : t1 = mT := by
    have h1 : (s.setVm vm₁).methodFound? y2.cls y2.name y2.desc = some mT := by rw [State.methodFound?_setVm hW₁.alike]; exact State.methodFound?_of_named hmT hnm
    rw [hy1, hy2, hy3] at h1
    simp only [State.methodFound?, State.vm_setVm, hfT1, htk1, Option.bind_eq_bind, Option.bind_some] at h1
    rw [hlook1] at h1
    exact Option.some.inj h1
  subst ht1
  have hmethT1 : vm₁.method? t1 = some methT := by rw [hW₁.alike.method?]; exact hmethT
  obtain ⟨kT1, hkT1, heT1⟩ := hW₁.alike.2.2 _ _ hkT
  cases htk1.symm.trans hkT1
  have hsp : ∀ z : Method, signaturePolymorphic tk1 z = false := fun z => by
    have h5 : tk1.name = y2.cls := by rw [heT1]; exact hnameT
    simp [signaturePolymorphic, h5, hnm.1, hnm.2]
  obtain ⟨-, -, -, -, -, ⟨e17, e17b, e17c⟩, -, -, -, hpn⟩ := lm_4
  obtain ⟨cO, kO, hcO, hkO, -, -, -, hO0⟩ := Cond.instantiable_spec (X.ts _ hobj0)
  obtain ⟨kO1, hkO1, heO⟩ := hW₁.alike.2.2 _ _ hkO
  obtain ⟨kh, f0, f1, -, -, -, -, hfr0, hfs0, hst0, hfr1, hfs1, hst1⟩ := lam_fields hkd1 (by rw [hed]; exact hname) (Lambda.isMade_warmer hW₁ hmade) (by rw [hW₁.alike.findClass]; exact hcO) hkO1 (by rw [heO]; exact hO0)
  obtain ⟨cellW, hcW, hoW, hclW⟩ := hR.recv X hwk rfl
  have hpk : (T.setVm vm₁).plainMethod ⟨cK, 1⟩ := State.plainMethod.of_name (fun k' hk' => by cases hk1.symm.trans hk'; rw [hkn1]; exact hpn)
  have hTh : (T.setVm vm₁).heap = H := hT
  have hpar : methT.sig.parameters.length = 2 := by
    rw [hsigT] at hlen2
    exact Option.some.inj hlen2
  obtain ⟨v, T', tE, L, X', hL, e1, e2, hq, hsteps⟩ := lam_call X₁ (g := F0 m pc ls rest) rfl (by rw [X.2.2.1]; exact hsz) (by rw [X.2.1]; exact hdg) (mk := ⟨cK, 1⟩) (.ref a :: [.ref a1]).toArray (R' := { frames := rm2.frames + 1, cells := rm2.cells, slots := rm2.slots, locals := 8 + (L2 + 11) + rm2.locals }) hmk1 hck1 hlk1 hpk (by show rm2.frames + 1 + 1 ≤ _; have := hrm.1; omega) (by rw [hml1]; have h1 := hrm.2; show 2 * 0 + (rest.map fun v => v.category).sum + (2 + 11) + (8 + (L2 + 11) + rm2.locals) ≤ R.locals; omega) hf.1 hf.2 (Qc := zz_Q g (fun r h' => r = some (.int (zb b)) ∧ h' = h)) (free := gF g) (mc := rm2.cells) (ms := rm2.slots) (fun Y => by
    have hloc : entryFrame ⟨cK, 1⟩ (.ref a :: [.ref a1]).toArray ck1.maxLocals = F0 ⟨cK, 1⟩ 0 #[.val (.ref a), .val (.ref a1)] [] := by rw [hml1]; rfl
    rw [hloc] at Y ⊢
    generalize hU : (((T.setVm vm₁).setTop (F0 m pc ls rest)).pushFrame (.java (F0 ⟨cK, 1⟩ 0 #[.val (.ref a), .val (.ref a1)] []))) = U at Y ⊢
    have hUv : U.vm = vm₁ := by rw [← hU]; rfl
    have hUh : U.heap = H := by rw [← hU]; exact hT
    have hcv : ((T.setVm vm₁).calling (F0 m pc ls rest) ⟨cK, 1⟩ (.ref a :: [.ref a1]).toArray).vm = vm₁ := rfl
    have hws := pay_in X.ts (lw_meth hcode)
    have hBack := back_of (R := { frames := rm2.frames + 1, cells := rm2.cells, slots := rm2.slots, locals := 8 + (L2 + 11) + rm2.locals }) (p := p) (e := e) (below := .java (F0 m pc ls rest) :: below) (s := (T.setVm vm₁).calling (F0 m pc ls rest) ⟨cK, 1⟩ (.ref a :: [.ref a1]).toArray) (sargs := (.ref a :: [.ref a1]).toArray) (len := 3) (W := 8) (bytes := cc2) (maxL := L2) (ret := some .boolean) hM zz_P.blind rfl rfl (Nat.le_refl _) (Nat.le_refl _) (fun w hw a' V hV => hws w hw a' V (State.WarmedH.trans (t := (T.setVm vm₁).calling (F0 m pc ls rest) ⟨cK, 1⟩ (.ref a :: [.ref a1]).toArray) hW₁ hV)) List.mem_cons_self (fun a' V hV => word_at (State.WarmedH.trans (t := (T.setVm vm₁).calling (F0 m pc ls rest) ⟨cK, 1⟩ (.ref a :: [.ref a1]).toArray) hW₁ hV) (Or.inl (by first | rfl | simp [Cond.onTables, Cond.keeps, Cond.steady])) (X.ts _ hini))
    have hnamedU : U.methodNamed? y2 = some t1 := by
      have h1 : (s.setVm vm₁).methodNamed? y2 = some t1 := by rw [State.methodNamed?_setVm hW₁.alike]; exact hmT
      rw [← h1]
      simp only [State.methodNamed?, hUv, State.vm_setVm]
    obtain ⟨vB, B, YB, ⟨g', mk', t0, L0, eB1, eB2, ⟨⟨v', h', hv, ⟨hv1, hv2⟩, hR'⟩, hF0⟩, eL, hLf, ec, es⟩, hstepsB⟩ := hBack ⟨cK, 1⟩ methk1 ck1 ⟨U, [], 0, 0⟩ (F0 ⟨cK, 1⟩ 9 #[.val (.ref a), .val (.ref a1)] []) (.invokevirtual 27) t1 ([.ref w, .int mid, .ref a1] : List Value).toArray Y rfl (by rw [hml1]; rfl) (by rw [hbytes1]; exact lmw_9) (by show 2 * 0 + 0 ≤ 8; omega) hnamedU ⟨by show 0 + rm2.cells ≤ rm2.cells; omega, by show 0 + rm2.slots ≤ rm2.slots; omega, zz_P.at' X.W hR hS hUh (by rw [hUv]; exact hW₁)⟩
    cases hv
    subst hv1
    subst hv2
    obtain ⟨UB, LB, cB, sB⟩ := B
    dsimp only [Pt.U, Pt.locs, Pt.cells, Pt.slots] at YB eB1 eB2 eL ec es hstepsB
    subst eL; subst ec; subst es
    have hzr := W.zret (p := p) (l := l) (e := e) (R := { frames := rm2.frames + 1, cells := rm2.cells, slots := rm2.slots, locals := 8 + (L2 + 11) + rm2.locals }) (m := ⟨cK, 1⟩) (below := .java (F0 m pc ls rest) :: below) (cells := 0 + rm2.cells) (slots := 0 + rm2.slots) (H := UB.heap) (s := (T.setVm vm₁).calling (F0 m pc ls rest) ⟨cK, 1⟩ (.ref a :: [.ref a1]).toArray) (args := (.ref a :: [.ref a1]).toArray) (Qc := zz_Q g (fun r h'' => r = some (.int (zb b)) ∧ h'' = h')) (free := gF g) (v := zb b) X.1 hbytes1 hretk1 (zb_nar b) (fun tt ht _ => ⟨⟨_, h', rfl, ⟨rfl, rfl⟩, by rw [ht, eB1]; exact hR'⟩, by
      have hcu : (State.calling U g' mk' ([.ref w, .int mid, .ref a1] : List Value).toArray).heap = H := hUh
      obtain ⟨z1, z2⟩ := hF0
      rw [hcu] at z1 z2
      have hc2 : ((T.setVm vm₁).calling (F0 m pc ls rest) ⟨cK, 1⟩ (.ref a :: [.ref a1]).toArray).heap = H := hT
      refine ⟨?_, ?_⟩
      · rw [hc2, ht, eB1]; exact z1
      · intro q hq1 hq2
        rw [hc2] at hq1 ⊢
        rw [ht, eB1]
        exact z2 q hq1 hq2⟩) (fun q hq => hLf q (by simpa using hq)) lmw_12 hlk1 (ls := #[.val (.ref a), .val (.ref a1)])
    obtain ⟨tE, stE, hMQ⟩ := hzr UB rfl YB
    refine ⟨tE, ?_, by simpa using hMQ⟩
    have hs : U.topJava?.isSome := Y.here.top
    have hsU : selectMethod e.platform U.vm cellW.cls t1 = .method t1 ∧ ∃ mk9, U.vm.classes[t1.cls]? = some mk9 ∧ mk9.isInterface = false := by
      have h1 := word_at (a' := #[]) (U := U) (by rw [hUv]; exact hW₁) (Or.inl (by first | rfl | simp [Cond.onTables, Cond.keeps, Cond.steady])) (X.ts _ hsel2)
      obtain ⟨q1, q2, q3, q4, q5, q6, q7, q8⟩ := Cond.selects_spec h1
      rw [hUv, hW₁.alike.findClass] at q4
      cases q4.symm.trans hclW
      cases q6.symm.trans hnamedU
      have h2 := State.methodFound?_of_named hnamedU hnm
      cases q5.symm.trans h2
      exact ⟨by rw [Launch.admits_selectMethod X1.admits]; exact q7, q8⟩
    obtain ⟨hsU, mk9, hmk9, hif9⟩ := hsU
    have hcU : U.heap[a]? = some { cls := cK, slots := #[.ref w, .int mid], vm := .none } := by rw [hUh]; exact hcell
    jvm_step Y.here [X.1, hbytes1, lmw_0, Value.isRef]
    jvm_step Y.here [X.1, hbytes1, lmw_1, getfield.wp_ready (e := e) (s := U) (c := cK) (field := f0) (a := a) (rest := []) (cell := { cls := cK, slots := #[.ref w, .int mid], vm := .none }) (v := .ref w)
      (f := { method := ⟨cK, 1⟩, pc := 1, locals := #[.val (.ref a), .val (.ref a1)], stack := [.ref a], locked := none }) hs (by rw [hUv]; exact hfr0) hst0 rfl hcU (fun z => by cases z) (by rw [hfs0]; rfl)]
    jvm_step Y.here [X.1, hbytes1, lmw_4, Value.isRef]
    jvm_step Y.here [X.1, hbytes1, lmw_5, getfield.wp_ready (e := e) (s := U) (c := cK) (field := f1) (a := a) (rest := [.ref w]) (cell := { cls := cK, slots := #[.ref w, .int mid], vm := .none }) (v := .int mid)
      (f := { method := ⟨cK, 1⟩, pc := 5, locals := #[.val (.ref a), .val (.ref a1)], stack := [.ref a, .ref w], locked := none }) hs (by rw [hUv]; exact hfr1) hst1 rfl hcU (fun z => by cases z) (by rw [hfs1]; rfl)]
    jvm_step Y.here [X.1, hbytes1, lmw_8, Value.isRef]
    jvm_step Y.here [X.1, hbytes1, lmw_9, invokevirtual.wp_ready (e := e) (s := U) (r := t1) (m := t1) (k := tk1) (mk := mk9) (rmeth := methT) (meth := methT) (a := w) (args := [.int mid, .ref a1]) (rest := []) (cell := cellW)
      (f := { method := ⟨cK, 1⟩, pc := 9, locals := #[.val (.ref a), .val (.ref a1)], stack := [.ref a1, .int mid, .ref w], locked := none }) hs ⟨k1, file1, 23, 26, t1.cls, tk1, by rw [hUv]; exact hk1, hfile1, by rw [hpool1]; exact e17, by rw [hUv]; exact hclsR1, by rw [hUv]; exact htk1, by rw [hUv, htk1] at hmk9; cases hmk9; exact hif9⟩ (by rw [hUv]; exact hready1) (by rw [hUv]; exact htk1) (by rw [hUv]; exact hmethT1) (hsp _) hstaticT hpar.symm rfl (by rw [hUh]; exact hcW) (fun q z => by rw [z] at hoW; cases hoW) hsU (by rw [hUv]; exact hmethT1) habT hmk9 hif9]
    intro acts'
    rw [doInvoke_state] at hstepsB ⊢
    exact hstepsB.trans stE)
  refine ⟨v, _, tE, T', L, hTh, X', hL, e1, e2, hq, fun target hgo => hstep₁ _ (fun acts => (hsteps acts).trans hgo)⟩

