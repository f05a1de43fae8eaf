set_option maxRecDepth 100000
/-! LAMBDAS: a frame that no name has; the methods of the classes made for the sites -/
/-- a method's own frame, run to its end, comes back to the caller -/
theorem lam_call {p : Program} {l : Launch} {e : Env} {R : Room} {s : State} {m : MethodId} {args : Array Value} {below : List Frame} {meth : Method} {c : Code} {T : State} {locs : List Loc} {cells slots : Nat} (X : Stand p l e R s m args below meth c T locs cells slots) {g : JFrame} (hg : g.method = m) (hsize : g.locals.size = c.maxLocals) {ig : Instr} {len : Nat} (hdg : decode c.code g.pc = .ok (ig, len))
    {mk : MethodId} {methk : Method} {ck : Code} (a : Array Value) {R' : Room} (hmk : T.vm.method? mk = some methk) (hck : methk.code = some ck) (hlk : methk.locks = false) (hpk : T.plainMethod mk)
    (hframes : R'.frames + 1 ≤ R.frames) (hlocals : 2 * g.monitorRoom + (g.stack.map fun v => v.category).sum + (ck.maxLocals + 11) + R'.locals ≤ R.locals) (hcells : cells + R'.cells ≤ R.cells) (hslots : slots + R'.slots ≤ R.slots)
    {Qc : Array Value → State → Outcome → State → Prop} {free : Addr → Prop} {mc ms : Nat}
    (hW : Stand p l e R' (T.calling g mk a) mk a (.java g :: below) methk ck ((T.setTop g).pushFrame (.java (entryFrame mk a ck.maxLocals))) [] 0 0 → ∃ t, Steps p.tables e (.java g :: below) (((T.setTop g).pushFrame (.java (entryFrame mk a ck.maxLocals))).setTop (entryFrame mk a ck.maxLocals)) t ∧ MQ (.java g :: below) Qc a (T.calling g mk a) mc ms free t) :
    ∃ (v : Option Value) (T' t : State) (L : List Loc), Stand p l e R s m args below meth c T' (locs ++ L) (cells + mc) (slots + ms) ∧ (∀ q ∈ L, free q.base) ∧ T'.heap = t.heap ∧ T'.vm = t.vm ∧ Qc a (T.calling g mk a) (.returned v) t ∧
      ∀ acts, Steps p.tables e below (doInvoke e (T.setTop g) acts mk a).1 (T'.setTop { g with pc := g.pc + len, stack := v.toList ++ g.stack }) := by
  obtain ⟨Y, hin⟩ := X.into hg hsize hdg a (R' := R') hmk hck hlk hpk hframes hlocals hcells hslots
  obtain ⟨t, st, o, hrun, hend, hq, L, ⟨⟨v, rfl⟩, hWt, hsame⟩, hL⟩ := hW Y
  obtain ⟨T', X', hW', hs', ht⟩ := X.outOf hg hdg hend hWt hsame
  refine ⟨v, T', t, L, X', hL, by rw [ht]; rfl, by rw [ht]; rfl, hq, fun acts => ?_⟩
  rw [hin acts]
  rw [ht] at st
  exact Steps.weaken (mid := [.java g]) st
def lmD (σ : Lambda.Shape) (n : String) : ClassFile := (σ.file n).getD { minorVersion := 0, majorVersion := 0, constantPool := #[], accessFlags := 0, thisClass := 0, superClass := 0, interfaces := #[], fields := #[], methods := #[], attributes := #[] }
def lmF (σ : Lambda.Shape) (n : String) : Method := ((layoutMethods (lmD σ n)).bind (·[1]?)).getD default
/-- the one method of the class made for a site, and what it calls -/
def lmOk (σ : Lambda.Shape) (n : String) (bytes : ByteArray) (ml iM iC iN nn : Nat) : Prop :=
  (σ.file n).isSome = true ∧ ((layoutMethods (lmD σ n)).bind (·[1]?)).isSome = true ∧ ((lmF σ n).code.map fun c => (c.code.data, c.maxLocals)) = some (bytes.data, ml) ∧ (lmF σ n).accessFlags = 0x0001 ∧ (lmF σ n).sig.returnType = some .boolean ∧
  ((lmD σ n).constantPool[iM]? = some (.methodref iC iN) ∧ (lmD σ n).constantPool.className? iC = some σ.implClass ∧ (lmD σ n).constantPool.nameAndType? iN = some (σ.implName, σ.implDesc.toString)) ∧
  (lmD σ n).constantPool[iC]? = some (.class_ nn) ∧ (lmD σ n).constantPool.string? nn = some σ.implClass ∧ iC ≠ (lmD σ n).thisClass ∧ (plainName (n ++ "$$Lambda") = true)
theorem lam_facts {σ : Lambda.Shape} {n : String} {bytes : ByteArray} {ml iM iC iN nn : Nat} (hOk : lmOk σ n bytes ml iM iC iN nn) {e : Setting} {vm : Vm} {d c : ClassId} {dk : Class} (hd : vm.classes[d]? = some dk) (hname : dk.name = n) (h : Lambda.isMade e vm d σ c = true) :
    ∃ (k tk : Class) (file : ClassFile) (methk : Method) (ck : Code) (toy iface : ClassId) (t found : MethodId),
      vm.classes[c]? = some k ∧ k.name = n ++ "$$Lambda" ∧ k.cf = some file ∧ file.constantPool = (lmD σ n).constantPool ∧
      vm.method? ⟨c, 1⟩ = some methk ∧ methk.code = some ck ∧ ck.code = bytes ∧ ck.maxLocals = ml ∧ methk.locks = false ∧ methk.accessFlags = 0x0001 ∧ methk.sig.returnType = some .boolean ∧
      vm.findClass σ.implClass = some toy ∧ vm.classes[toy]? = some tk ∧ ((methodIn toy σ.implName σ.implDesc.toString tk.isInterface none).ask e vm).1 = .ok t ∧
      vm.methodReady c iM t ∧ vm.classReady c iC toy ∧ vm.findClass σ.iface = some iface ∧ ((methodIn iface σ.name σ.sam.toString true none).ask e vm).1 = .ok found ∧ selectMethod {} vm c found = .method ⟨c, 1⟩ := by
  obtain ⟨hF, hM2, fc, ff, fr, e17, e14, hs14, hne, -⟩ := hOk
  obtain ⟨dk', k, ok, tk, file, cf, object, iface, toy, lay, methods, target, found, hd', hk, hfile, hcf, -, hif, -, -, hms, ht, htk, hg, hfound, hrec, -, -, -, -, hpool, hmeth, -, -, hres, hsel⟩ := Lambda.isMade_spec h
  cases hd.symm.trans hd'
  have hD : σ.file n = some (lmD σ n) := by
    obtain ⟨x, hx⟩ := Option.isSome_iff_exists.mp hF
    simp [lmD, hx]
  rw [hname, hD] at hcf
  cases hcf
  have h2 : methods[1]? = some (lmF σ n) := by
    obtain ⟨x, hx⟩ := Option.isSome_iff_exists.mp hM2
    have hf : lmF σ n = x := by simp [lmF, hx]
    rw [hms] at hx
    rw [hf]
    exact hx
  obtain ⟨b, hb, hsame⟩ := hmeth 1 (lmF σ n) h2
  simp only [Lambda.sameMethod, Bool.and_eq_true, decide_eq_true_eq] at hsame
  obtain ⟨⟨hn, -, hsig, hfl⟩, hcode⟩ := hsame
  cases hfc : (lmF σ n).code with
  | none => rw [hfc] at fc; cases fc
  | some x =>
    cases hbc : b.code with
    | none => simp [hfc, hbc] at hcode
    | some y =>
      simp only [hfc, hbc, Bool.and_eq_true, decide_eq_true_eq] at hcode
      simp only [hfc, Option.map_some, Option.some.injEq, Prod.mk.injEq] at fc
      refine ⟨k, tk, file, b, y, toy, iface, target, found, hk, by rw [hrec.1, hname], hfile, hpool.2.1, by simp [Vm.method?, hk, hb], hbc, ?_, by rw [← hcode.1.1.1.1.2.1]; exact fc.2, ?_, by rw [← hfl]; exact ff, by rw [← hsig]; exact fr, ht, htk, hg,
        ⟨k, hk, hres iM _ (Lambda.resolvedOf_method e17.1 e17.2.1 ht htk e17.2.2 hg)⟩, ⟨k, hk, hres iC _ (Lambda.resolvedOf_class e14 hne hs14 ht)⟩, hif, hfound, hsel⟩
      · rw [← hcode.1.1.1.1.2.2]
        exact ByteArray.ext fc.1
      · simp [Method.locks, Method.isSynchronized, ← hfl, ff, hasFlag, Acc.synchronized]
theorem lm_0 : lmOk (zz_sh 0) "Peerpanel" ⟨#[43, 44, 184, 0, 17, 172]⟩ 3 17 14 16 13 := by refine ⟨?_, ?_, ?_, ?_, ?_, ⟨?_, ?_, ?_⟩, ?_, ?_, ?_, ?_⟩ <;> decide +kernel
theorem lm_1 : lmOk (zz_sh 1) "Peerpanel" ⟨#[43, 44, 184, 0, 17, 172]⟩ 3 17 14 16 13 := by refine ⟨?_, ?_, ?_, ?_, ?_, ⟨?_, ?_, ?_⟩, ?_, ?_, ?_, ?_⟩ <;> decide +kernel
theorem lm_2 : lmOk (zz_sh 2) "Peerpanel$Work" ⟨#[43, 184, 0, 17, 172]⟩ 2 17 14 16 13 := by refine ⟨?_, ?_, ?_, ?_, ?_, ⟨?_, ?_, ?_⟩, ?_, ?_, ?_, ?_⟩ <;> decide +kernel
theorem lm_3 : lmOk (zz_sh 3) "Peerpanel$Work" ⟨#[43, 184, 0, 17, 172]⟩ 2 17 14 16 13 := by refine ⟨?_, ?_, ?_, ?_, ?_, ⟨?_, ?_, ?_⟩, ?_, ?_, ?_, ?_⟩ <;> decide +kernel
theorem lm_4 : lmOk (zz_sh 4) "Peerpanel$Work" ⟨#[42, 180, 0, 17, 42, 180, 0, 19, 43, 182, 0, 27, 172]⟩ 2 27 23 26 22 := by refine ⟨?_, ?_, ?_, ?_, ?_, ⟨?_, ?_, ?_⟩, ?_, ?_, ?_, ?_⟩ <;> decide +kernel
