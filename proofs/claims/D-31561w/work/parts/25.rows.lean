set_option maxRecDepth 100000
/-! MORE ROWS: constants, casts, arrays of references, calls through interfaces -/
section ZR
variable {p : Program} {l : Launch} {e : Env} {R : Room} {s : State} {m : MethodId} {args : Array Value} {below : List Frame} {meth : Method} {c : Code} {g : zz_G} {y : MethodName} {cc : ByteArray} {nL : Nat} {ret : Option FieldType} {Q : State → Prop} {h : zz_H} {mc ms pc : Nat} {lo : List (Nat × Value)} {rest : List Value}
theorem zj_gets (X : zz_X l g y cc nL ret p s m args meth c) {C n d ref : String} {v : Value} {index : Nat} (hZ : va_Z C n d v (gF g) s s.heap) (hlink : Cond.fieldLink y.cls index ref n d ∈ lw_all) (hsame : ∀ x, s.fieldFound? C n d = some x → s.fieldFound? ref n d = some x) (hdg : decode cc pc = .ok (.getstatic index, 3)) (k : zz_J p l e R s m args below meth c g nL Q h mc ms (pc + 3) lo (v :: rest)) : zz_J p l e R s m args below meth c g nL Q h mc ms pc lo rest := fun H locs ls hR hS hl =>
  va_gets X.1 X.2.1 hZ hS X.own (X.ts _ hlink) hsame hdg (k H locs ls hR hS hl)
theorem zz_X.dft (X : zz_X l g y cc nL ret p s m args meth c) : va_Z "java/util/ArrayList" "DEFAULTCAPACITY_EMPTY_ELEMENTDATA" "[Ljava/lang/Object;" (.ref (gC g 256)) (gF g) s s.heap := X.W.2.1.2.2.1
theorem zz_X.high (X : zz_X l g y cc nL ret p s m args meth c) : va_Z "java/lang/Integer$IntegerCache" "high" "I" (.int 127) (gF g) s s.heap := X.W.2.1.2.2.2.2.1
theorem zz_X.cache (X : zz_X l g y cc nL ret p s m args meth c) : va_Z "java/lang/Integer$IntegerCache" "cache" "[Ljava/lang/Integer;" (.ref (gC g 257)) (gF g) s s.heap := X.W.2.1.2.2.2.2.2.1
theorem zz_X.vb (X : zz_X l g y cc nL ret p s m args meth c) : vb_C (gC g) (gF g) s s.heap := X.W.2.1.2.2.2.2.2.2.2.1
/-- the length of the empty array that an empty ArrayList has -/
theorem zj_alen0 (X : zz_X l g y cc nL ret p s m args meth c) (hdg : decode cc pc = .ok (.arraylength, 1)) (k : zz_J p l e R s m args below meth c g nL Q h mc ms (pc + 1) lo (.int 0 :: rest)) : zz_J p l e R s m args below meth c g nL Q h mc ms pc lo (.ref (gC g 256) :: rest) := fun H locs ls hR hS hl =>
  va_tlen X.1 X.2.1 X.W.2.1.2.2.2.1 hS (v := 0) rfl hdg (k H locs ls hR hS hl)
/-- the cache's boxes -/
theorem zj_box (X : zz_X l g y cc nL ret p s m args meth c) {j : Nat} {i : Int32} (hi : i = nI j) (hj : j < 256) (hdg : decode cc pc = .ok (.aaload, 1)) (k : zz_J p l e R s m args below meth c g nL Q h mc ms (pc + 1) lo (.ref (gC g j) :: rest)) : zz_J p l e R s m args below meth c g nL Q h mc ms pc lo (.int i :: .ref (gC g 257) :: rest) := fun H locs ls hR hS hl => by
  obtain ⟨h1, h2⟩ := zz_ix hi hj (show 256 < 2 ^ 31 by decide)
  exact vb_tq X.1 X.2.1 X.W.2.1.2.2.2.2.2.2.1 hS h1 (by rw [h2]) hdg (k H locs ls hR hS hl)
theorem zj_getc (X : zz_X l g y cc nL ret p s m args meth c) {j index : Nat} {ref : String} {v : Int32} (hj : j < 256) (hv : vb_c j = v) (hlink : Cond.fieldLink y.cls index ref "value" "I" ∈ lw_all) (hsame : ∀ x, s.fieldFound? "java/lang/Integer" "value" "I" = some x → s.fieldFound? ref "value" "I" = some x) (hdg : decode cc pc = .ok (.getfield index, 3)) (k : zz_J p l e R s m args below meth c g nL Q h mc ms (pc + 3) lo (.int v :: rest)) : zz_J p l e R s m args below meth c g nL Q h mc ms pc lo (.ref (gC g j) :: rest) := fun H locs ls hR hS hl => by
  subst hv
  exact va_getX (i := j) (v := fun k => .int (vb_c k)) X.1 X.2.1 X.vb.2 hj hS X.own (X.ts _ hlink) hsame hdg (k H locs ls hR hS hl)
/-- the receiver a is an object of class C -/
def zz_rc (g : zz_G) (s : State) (h : zz_H) (a : Nat) (C : String) : Prop := ∀ (H : Heap) (locs : List Loc), zz_R g H h → va_S (gF g) s.heap H locs → ∃ cell : Cell, H[a]? = some cell ∧ cell.vm.isStatics = false ∧ s.vm.findClass C = some cell.cls
theorem zz_X.rcO (X : zz_X l g y cc nL ret p s m args meth c) {a ci : Nat} {fs : List Value} {q : vw_C} (ha : h a = some (eO ci fs)) (hc : vwCl[ci]? = some q) : zz_rc g s h a q.1 := fun H locs hR _ => hR.recv X ha hc
theorem zz_X.rcI (X : zz_X l g y cc nL ret p s m args meth c) {j : Nat} (hj : j < 256) : zz_rc g s h (gC g j) "java/lang/Integer" := fun H locs hR hS => by
  obtain ⟨cell, h1, h2, h3, h4⟩ := (X.vb.1 j hj).kept hS.2.1
  exact ⟨cell, h1, h2, h3⟩
theorem zz_X.at (X : zz_X l g y cc nL ret p s m args meth c) {ci : Nat} {q : vw_C} (hc : vwCl[ci]? = some q) : ClassAt s q.1 ((gD g).1 ci) := ⟨(X.K.1 ci q hc).2.1, (X.K.1 ci q hc).2.2⟩
theorem zj_castG (X : zz_X l g y cc nL ret p s m args meth c) {a index : Nat} {C nm : String} (hlink : Cond.classLink y.cls index nm ∈ lw_all) (hcast : Cond.castable C nm ∈ lw_tbl) (hr : zz_rc g s h a C) (hdg : decode cc pc = .ok (.checkcast index, 3)) (k : zz_J p l e R s m args below meth c g nL Q h mc ms (pc + 3) lo (.ref a :: rest)) : zz_J p l e R s m args below meth c g nL Q h mc ms pc lo (.ref a :: rest) := fun H locs ls hR hS hl =>
  va_castY X.1 X.2.1 X.own (X.ts _ hlink) (X.W.1.2.1 _ hcast rfl) (hr H locs hR hS) hdg (k H locs ls hR hS hl)
theorem zj_cast (X : zz_X l g y cc nL ret p s m args meth c) {a index ci : Nat} {fs : List Value} {q : vw_C} (ha : h a = some (eO ci fs)) (hc : vwCl[ci]? = some q) (hlink : Cond.classLink y.cls index q.1 ∈ lw_all) (hdg : decode cc pc = .ok (.checkcast index, 3)) (k : zz_J p l e R s m args below meth c g nL Q h mc ms (pc + 3) lo (.ref a :: rest)) : zz_J p l e R s m args below meth c g nL Q h mc ms pc lo (.ref a :: rest) := fun H locs ls hR hS hl =>
  va_castS X.1 X.2.1 X.own (X.ts _ hlink) (X.at hc) (hR.recv X ha hc) hdg (k H locs ls hR hS hl)
theorem zj_castN (X : zz_X l g y cc nL ret p s m args meth c) {index : Nat} (hdg : decode cc pc = .ok (.checkcast index, 3)) (k : zz_J p l e R s m args below meth c g nL Q h mc ms (pc + 3) lo (.null :: rest)) : zz_J p l e R s m args below meth c g nL Q h mc ms pc lo (.null :: rest) := fun H locs ls hR hS hl => lv_castN X.1 X.2.1 hdg (k H locs ls hR hS hl)
theorem zj_castI (X : zz_X l g y cc nL ret p s m args meth c) {j index : Nat} (hj : j < 256) (hlink : Cond.classLink y.cls index "java/lang/Integer" ∈ lw_all) (hdg : decode cc pc = .ok (.checkcast index, 3)) (k : zz_J p l e R s m args below meth c g nL Q h mc ms (pc + 3) lo (.ref (gC g j) :: rest)) : zz_J p l e R s m args below meth c g nL Q h mc ms pc lo (.ref (gC g j) :: rest) := fun H locs ls hR hS hl =>
  va_castS X.1 X.2.1 X.own (X.ts _ hlink) (X.at (ci := 10) (q := (RJ21, TJ21, 1)) rfl) (X.rcI hj H locs hR hS) hdg (k H locs ls hR hS hl)
theorem zj_ldcw (X : zz_X l g y cc nL ret p s m args meth c) {index : Nat} {v : Int32} (hk : Cond.constant y.cls index v ∈ lw_all) (hdg : decode cc pc = .ok (.ldc_w index, 3)) (k : zz_J p l e R s m args below meth c g nL Q h mc ms (pc + 3) lo (.int v :: rest)) : zz_J p l e R s m args below meth c g nL Q h mc ms pc lo rest := fun H locs ls hR hS hl =>
  lv_ldcw X.1 X.2.1 X.own (X.ts _ hk) hdg (k H locs ls hR hS hl)
theorem zj_ldc (X : zz_X l g y cc nL ret p s m args meth c) {index : Nat} {v : Int32} (hk : Cond.constant y.cls index v ∈ lw_all) (hdg : decode cc pc = .ok (.ldc index, 2)) (k : zz_J p l e R s m args below meth c g nL Q h mc ms (pc + 2) lo (.int v :: rest)) : zz_J p l e R s m args below meth c g nL Q h mc ms pc lo rest := fun H locs ls hR hS hl =>
  lv_ldc X.1 X.2.1 X.own (X.ts _ hk) hdg (k H locs ls hR hS hl)
theorem zj_anew (X : zz_X l g y cc nL ret p s m args meth c) {N index : Nat} {i : Int32} (hclink : Cond.classLink y.cls index "java/lang/Object" ∈ lw_all) (hi : i = nI N) (hN : N ≤ 65536) (hcells : mc + 1 ≤ R.cells) (hslots : ms + N ≤ R.slots) (hdg : decode cc pc = .ok (.anewarray index, 3)) (kk : ∀ q : Nat, h q = none → zz_J p l e R s m args below meth c g nL Q (zz_up h q (eR N (fun _ => none))) (mc + 1) (ms + N) (pc + 3) lo (.ref q :: rest)) : zz_J p l e R s m args below meth c g nL Q h mc ms pc lo (.int i :: rest) := fun H locs ls hR hS hl => by
  subst hi
  have hcl : (nI N).toNatClampNeg = N := nI_clamp (by omega)
  refine W.anew X.1 X.2.1 X.own (X.ts _ hclink) (va_AO.use X.W.1.2.2.2.2.2.2.2.2.2.2.2.1) rfl hdg rfl (nI_pos (by omega)) (by rw [hcl]; omega) hcells (by rw [hcl]; exact hslots) fun cA kA comp f1 f2 f3 f4 => ?_
  rw [hcl]
  have hcA : cA = gA g 3 := by
    obtain ⟨kA', comp', q1, q2, q3, q4⟩ := (X.K.2 3 _ rfl).2
    exact Option.some.inj (f1.symm.trans q4)
  subst hcA
  generalize hH1 : H.push ({ cls := gA g 3, slots := Array.replicate N .null, vm := .none } : Cell) = H1
  have z1 : H1.size = H.size + 1 := by rw [← hH1, Array.size_push]
  have e1 : H1[H.size]? = some (arrV (gA g 3) N (fun _ => .null)) := by rw [← hH1, Array.getElem?_push_size, ← arrV_new]
  have o1 : ∀ q : Nat, q < H.size → H1[q]? = H[q]? := fun q hq => by rw [← hH1, Array.getElem?_push, if_neg (Nat.ne_of_lt hq)]
  have hz : gZ g ≤ H.size := Nat.le_trans X.W.2.2 hS.1
  refine kk H.size hR.new H1 locs ls (hR.push hz o1 ?_) ⟨Nat.le_trans hS.1 (by omega), fun x h1 h2 => (o1 x (Nat.lt_of_lt_of_le h1 hS.1)).trans (hS.2.1 x h1 h2), hS.2.2⟩ hl
  show H1[H.size]? = some (vp_cell _ _)
  rw [e1, vp_cell_q]
  rfl
theorem zj_ldcM (X : zz_X l g y cc nL ret p s m args meth c) {index : Nat} (hlink : Cond.classLink y.cls index "[Ljava/lang/Object;" ∈ lw_all) (hdg : decode cc pc = .ok (.ldc index, 2)) (k : zz_J p l e R s m args below meth c g nL Q h mc ms (pc + 2) lo (.ref (gC g 258) :: rest)) : zz_J p l e R s m args below meth c g nL Q h mc ms pc lo rest := fun H locs ls hR hS hl =>
  va_ldcM X.1 X.2.1 X.own (X.ts _ hlink) X.W.1.2.2.2.2.2.1 hdg (k H locs ls hR hS hl)
theorem zj_getC (X : zz_X l g y cc nL ret p s m args meth c) {index a n : Nat} {f : Nat → Option Nat} (ha : h a = some (eR n f)) (hlink : Cond.methodLink y.cls index ⟨"java/lang/Object", "getClass", "()Ljava/lang/Class;"⟩ ∈ lw_all) (hdecl : Cond.declares ⟨"java/lang/Object", "getClass", "()Ljava/lang/Class;"⟩ ∈ lw_tbl) (hsel : Cond.selects "[Ljava/lang/Object;" ⟨"java/lang/Object", "getClass", "()Ljava/lang/Class;"⟩ ⟨"java/lang/Object", "getClass", "()Ljava/lang/Class;"⟩ ∈ lw_all) (hinst : Cond.instanceMethod ⟨"java/lang/Object", "getClass", "()Ljava/lang/Class;"⟩ ∈ lw_all) (hnat : Cond.native ⟨"java/lang/Object", "getClass", "()Ljava/lang/Class;"⟩ ∈ lw_all) (hfr : 1 ≤ R.frames) (hlo : (rest.map fun v => v.category).sum + 14 ≤ R.locals) (hdg : decode cc pc = .ok (.invokevirtual index, 3)) (k : zz_J p l e R s m args below meth c g nL Q h mc ms (pc + 3) lo (.ref (gC g 258) :: rest)) : zz_J p l e R s m args below meth c g nL Q h mc ms pc lo (.ref a :: rest) := fun H locs ls hR hS hl => by
  have h3 : zz_cell g a (eR n f) H := (hR a _ ha).1
  refine va_getC X.1 X.2.1 (by rw [X.2.2.1]; exact hl.1.symm) X.own (X.ts _ hlink) (X.tbl hdecl rfl) (X.ts _ hsel) (X.ts _ hinst) (X.ts _ hnat) X.W.1.2.2.2.2.2.1 ⟨_, h3, rfl, ?_⟩ hfr hlo hdg (k H locs ls hR hS hl)
  obtain ⟨kA', comp', q1, q2, q3, q4⟩ := (X.K.2 3 _ rfl).2
  exact q4
/-- System.arraycopy of the first k references -/
theorem zj_copy (X : zz_X l g y cc nL ret p s m args meth c) {index a0 a n0 n1 k ci : Nat} {f f1 : Nat → Option Nat} {q : vw_C} {n : Int32} (hlink : Cond.methodLink y.cls index arraycopyName ∈ lw_all) (hnat : Cond.native arraycopyName ∈ lw_all) (hstat : Cond.static arraycopyName ∈ lw_all) (hini : Cond.initialized "java/lang/System" ∈ lw_all) (ha0 : h a0 = some (eR n0 f)) (ha : h a = some (eR n1 f1)) (hn : n = nI k) (hk : k < 65536) (hk0 : k ≤ n0) (hk1 : k ≤ n1) (hc : vwCl[ci]? = some q) (hcast : Cond.castable q.1 "java/lang/Object" ∈ lw_tbl) (hel : ∀ i : Nat, i < k → ∀ y : Nat, f i = some y → ∃ vs, h y = some (eO ci vs)) (hfr : 1 ≤ R.frames) (hlo : (rest.map fun v => v.category).sum + (nativeFrameWords "java/lang/System" "arraycopy" 5 + 11) ≤ R.locals) (hdg : decode cc pc = .ok (.invokestatic index, 3)) (kk : zz_J p l e R s m args below meth c g nL Q (zz_up h a (eR n1 (va_cpy f f1 0 0 k))) mc ms (pc + 3) lo rest) : zz_J p l e R s m args below meth c g nL Q h mc ms pc lo (.int n :: .int 0 :: .ref a :: .int 0 :: .ref a0 :: rest) := fun H locs ls hR hS hl => by
  subst hn
  have hcl : (nI k).toNatClampNeg = k := nI_clamp (by omega)
  have h0c : (0 : Int32).toNatClampNeg = 0 := rfl
  have hnn : (nI k).toInt = (k : Int) := nI_toInt (by omega)
  have h0n : (0 : Int32).toInt = 0 := rfl
  have hA : gF g a := (hR a _ ha).2
  have hc0 : H[a0]? = some (vp_cell (gA g 3) (n0, .inr (.inr (.inr (.inr f))))) := (hR a0 _ ha0).1
  have hc1 : H[a]? = some (vp_cell (gA g 3) (n1, .inr (.inr (.inr (.inr f1))))) := (hR a _ ha).1
  have hcls := (X.K.1 ci q hc).2
  obtain ⟨kC, hkC, -⟩ := hcls.2
  obtain ⟨c1, c2, w1, w2, w3⟩ := Cond.castable_spec (args := #[]) (first := s) (o := none) (idx := []) (X.W.1.2.1 _ hcast rfl)
  intro T hT X1
  obtain ⟨-, k0, hk0', cm0, hkk0⟩ := (X.K.2 3 _ rfl).1 n0 (fun j => va_rf (f j))
  obtain ⟨-, k1, hk1', cm1, hkk1⟩ := (X.K.2 3 _ rfl).1 n1 (fun j => va_rf (f1 j))
  obtain ⟨vm', X', step⟩ := X1.arraycopy X.1 X.own (X.ts _ hlink) (X.ts _ hnat) (X.ts _ hstat) (X.ts _ hini) (src := a0) (dst := a) (cs := vp_cell (gA g 3) (n0, .inr (.inr (.inr (.inr f))))) (cd := vp_cell (gA g 3) (n1, .inr (.inr (.inr (.inr f1))))) (srcPos := 0) (destPos := 0) (n := nI k) (by rw [hT]; exact hc0) (by rw [hT]; exact hc1)
    (fun _ h => by cases h) (fun _ h => by cases h) (fun h => by cases h) (fun h => by cases h) hk0' hk1' hkk0 hkk1 rfl (by decide) (by decide) (nI_pos (by omega))
    (by rw [h0n, hnn]; show ¬ _ > ((arrV (gA g 3) n0 (fun j => va_rf (f j))).slots.size : Int); rw [arrV_size]; omega)
    (by rw [h0n, hnn]; show ¬ _ > ((arrV (gA g 3) n1 (fun j => va_rf (f1 j))).slots.size : Int); rw [arrV_size]; omega)
    (fun vm₁ hal i hi => by
      rw [hcl] at hi
      have e : (vp_cell (gA g 3) (n0, .inr (.inr (.inr (.inr f))))).slots.getD ((0 : Int32).toNatClampNeg + i) .null = va_rf (f i) := by
        rw [h0c, Nat.zero_add]
        show (arrV (gA g 3) n0 (fun j => va_rf (f j))).slots.getD _ _ = _
        rw [Array.getD_eq_getD_getElem?, arrV_read _ _ (by omega)]
        rfl
      rw [e]
      cases hy : f i with
      | none => exact ⟨rfl, trivial⟩
      | some y1 =>
        obtain ⟨vs, hv⟩ := hel i hi y1 hy
        obtain ⟨cellV, g1, g2, g3⟩ := hR.recv X hv hc
        obtain ⟨kA, comp, r1, r2, r3, -⟩ := (X.K.2 3 _ rfl).2
        cases hk1'.symm.trans r1
        cases hkk1.symm.trans r2
        obtain ⟨kC, hkC, -⟩ := Vm.findClass_spec g3
        obtain ⟨kE, hkE, -⟩ := Vm.findClass_spec r3
        obtain ⟨kC', hkC', -⟩ := hal.2.2 _ _ hkC
        obtain ⟨kE', hkE', -⟩ := hal.2.2 _ _ hkE
        refine ⟨rfl, cellV, (show T.heap[y1]? = some cellV by rw [hT]; exact g1), (fun q h => by rw [h] at g2; cases g2), ⟨kC', hkC'⟩, ?_, ?_⟩
        · exact ⟨kE', hkE'⟩
        · show vm₁.assignable _ _ = true
          rw [hal.assignable]
          cases w1.symm.trans g3
          cases w2.symm.trans r3
          exact w3)
    (g := F0 m pc ls (.int (nI k) :: .int 0 :: .ref a :: .int 0 :: .ref a0 :: rest)) rfl (by rw [X.2.2.1]; exact hl.1) (rest := rest) rfl (by rw [X.2.1]; exact hdg) hfr (by show 2 * 0 + _ + _ ≤ _; omega)
  have e1 : copied (vp_cell (gA g 3) (n0, .inr (.inr (.inr (.inr f))))) (vp_cell (gA g 3) (n1, .inr (.inr (.inr (.inr f1))))) 0 0 (nI k) = vp_cell (gA g 3) (n1, .inr (.inr (.inr (.inr (va_cpy f f1 0 0 k))))) := by
    rw [vp_cell_q, vp_cell_q, vp_cell_q]
    have e2 := va_copied (fun z => va_rf z) (gA g 3) (gA g 3) (n0 := n0) (n1 := n1) f f1 (sp := 0) (dp := 0) (n := k) (by omega)
    unfold copied
    rw [h0c, hcl]
    exact e2
  rw [e1] at X' step
  have hl1 : a < H.size := (Array.getElem?_eq_some_iff.mp hc1).1
  have hheap : ((T.setVm vm').setCell a (vp_cell (gA g 3) (n1, .inr (.inr (.inr (.inr (va_cpy f f1 0 0 k))))))).heap = H.setIfInBounds a (vp_cell (gA g 3) (n1, .inr (.inr (.inr (.inr (va_cpy f f1 0 0 k)))))) := by rw [← hT]; rfl
  have oq : ∀ q : Nat, q ≠ a → (H.setIfInBounds a (vp_cell (gA g 3) (n1, .inr (.inr (.inr (.inr (va_cpy f f1 0 0 k)))))))[q]? = H[q]? := fun q hq => by simp [Array.getElem?_setIfInBounds, Ne.symm hq]
  obtain ⟨t, a1, b1⟩ := kk _ _ ls (hR.set ha (fun _ z => by cases z) oq (show (H.setIfInBounds a _)[a]? = some _ by simp [Array.getElem?_setIfInBounds, hl1])) ⟨by simp; exact hS.1, fun q g1 g2 => by
      rw [oq q (fun e => g2 (by rw [e]; exact hA))]
      exact hS.2.1 q g1 g2, fun q hq => by
      rcases List.mem_append.mp hq with h | h
      · exact hS.2.2 q h
      · obtain ⟨z, -, hz⟩ := List.mem_map.mp h
        rw [← hz]
        exact hA⟩ hl _ hheap X'
  exact ⟨t, step t a1, b1⟩
/-- behind a call through an interface -/
theorem zj_run5 {mc2 ms2 : Nat} {st : List Value} {post : Option Value → zz_H → Prop} {aa : Array Value} (hr : ∀ (H : Heap) (locs : List Loc) (ls : Array Slot), zz_R g H h → va_S (gF g) s.heap H locs → lv_has ls nL lo → va_Run5 p l e R s m args below meth c H locs mc ms mc2 ms2 (F0 m pc ls st) rest (zz_Q g post aa) (gF g))
    (kk : ∀ (v : Option Value) (h' : zz_H), post v h' → zz_J p l e R s m args below meth c g nL Q h' (mc + mc2) (ms + ms2) (pc + 5) lo (v.toList ++ rest)) : zz_J p l e R s m args below meth c g nL Q h mc ms pc lo st := by
  intro H locs ls hR hS hl T hT X
  obtain ⟨v, st₀, t, T', L, h0, X', hL, e1, e2, ⟨⟨v', h', hv, hp, hh⟩, hz, hk⟩, sp⟩ := hr H locs ls hR hS hl T hT X
  cases hv
  rw [h0] at hz hk
  obtain ⟨t2, a1, b1⟩ := kk v h' hp T'.heap (locs ++ L) ls (by rw [e1]; exact hh)
    ⟨Nat.le_trans hS.1 (by rw [e1]; exact hz), fun q h1 h2 => by rw [e1, hk q (Nat.lt_of_lt_of_le h1 hS.1) h2]; exact hS.2.1 q h1 h2, fun q hq => by
      rcases List.mem_append.mp hq with h | h
      · exact hS.2.2 q h
      · exact hL q h⟩ hl T' rfl X'
  exact ⟨t2, sp t2 a1, b1⟩
section ZCF
variable {y2 x2 : MethodName} {cc2 : ByteArray} {L2 index count n : Nat} {ret2 : Option FieldType} {rm2 : Room} {As : List Value} {post : Option Value → zz_H → Prop} {st : List Value}
/-- what is asked of an interface's method x, run as y by an object of class C -/
def zz_face (C : String) (x y : MethodName) (n : Nat) : Prop := (x ∈ zz_fx ∧ Cond.publicMethod y ∈ lw_tbl ∧ Cond.unhidden C x.name x.desc ∈ lw_tbl ∧ Cond.castable C x.cls ∈ lw_tbl) ∧ x.cls ≠ "java/lang/invoke/MethodHandle" ∧ x.cls ≠ "java/lang/invoke/VarHandle" ∧ (parseMethodDescriptor x.desc).map (fun d => d.parameters.length) = some n
theorem zj_callF (X : zz_X l g y cc nL ret p s m args meth c) {a ci : Nat} {q : vw_C} (hM : zz_C l g y2 cc2 L2 ret2 rm2 (.ref a :: As) h post) (hc : vwCl[ci]? = some q) (hr : zz_rc g s h a q.1) (hF : zz_face q.1 x2 y2 n) (hG : GoodIn lw_all (va_wsF y.cls index q.1 x2 y2 (ws_ y2 cc2 L2 ret2))) (hrm : rm2.frames + 1 ≤ R.frames ∧ 8 + (L2 + 11) + rm2.locals ≤ R.locals) (hn : As.length = n) (hst : st = As.reverse ++ .ref a :: rest) (hw : (rest.map fun v => v.category).sum ≤ 8) (hf : mc + rm2.cells ≤ R.cells ∧ ms + rm2.slots ≤ R.slots) (hdg : decode cc pc = .ok (.invokeinterface index count, 5))
    (kk : ∀ (v : Option Value) (h' : zz_H), post v h' → zz_J p l e R s m args below meth c g nL Q h' (mc + rm2.cells) (ms + rm2.slots) (pc + 5) lo (v.toList ++ rest)) : zz_J p l e R s m args below meth c g nL Q h mc ms pc lo st := by
  refine zj_run5 (rest := rest) (aa := (Value.ref a :: As).toArray) (fun H locs ls hR hS hl => ?_) kk
  obtain ⟨⟨f1, f3, f4, f5⟩, f6⟩ := hF
  obtain ⟨g1, g2, -⟩ := X.W.1.2.2.2.2.2.2.2.2.2.2.2.2 _ f1
  have hFw : va_Fw q.1 x2 y2 s := ⟨g1, g2, X.tbl f3 rfl, X.tbl f4 rfl, X.tbl f5 rfl⟩
  exact va_runF (As := As) (rest := rest) (X.at hc) X.fix hM (va_cwF n X.ts hG rfl rfl rfl hFw f6 hrm) ⟨zz_P.blind, hr H locs hR hS, fun U hU hW => zz_P.at' X.W hR hS hU hW⟩ rfl hn hl.1 hst (lv_room hw) hdg hf
theorem zj_callFp (X : zz_X l g y cc nL ret p s m args meth c) {a ci : Nat} {q : vw_C} {w : Value} (hM : zz_C l g y2 cc2 L2 ret2 rm2 (.ref a :: As) h (fun r h' => r = some w ∧ h' = h)) (hc : vwCl[ci]? = some q) (hr : zz_rc g s h a q.1) (hF : zz_face q.1 x2 y2 n) (hG : GoodIn lw_all (va_wsF y.cls index q.1 x2 y2 (ws_ y2 cc2 L2 ret2))) (hrm : rm2.frames + 1 ≤ R.frames ∧ 8 + (L2 + 11) + rm2.locals ≤ R.locals) (hn : As.length = n) (hst : st = As.reverse ++ .ref a :: rest) (hw : (rest.map fun v => v.category).sum ≤ 8) (hf : mc + rm2.cells ≤ R.cells ∧ ms + rm2.slots ≤ R.slots) (hdg : decode cc pc = .ok (.invokeinterface index count, 5))
    (kk : zz_J p l e R s m args below meth c g nL Q h (mc + rm2.cells) (ms + rm2.slots) (pc + 5) lo (w :: rest)) : zz_J p l e R s m args below meth c g nL Q h mc ms pc lo st :=
  zj_callF X hM hc hr hF hG hrm hn hst hw hf hdg (fun v h' hp => by obtain ⟨rfl, rfl⟩ := hp; exact kk)
/-- a virtual call of a method that the receiver's class C inherits -/
theorem zj_callU (X : zz_X l g y cc nL ret p s m args meth c) {a : Nat} {C owner : String} (hM : zz_C l g y2 cc2 L2 ret2 rm2 (.ref a :: As) h post) (hr : zz_rc g s h a C) (hyx : y2 = ⟨owner, x2.name, x2.desc⟩) (hd : owner ≠ "java/lang/invoke/MethodHandle" ∧ owner ≠ "java/lang/invoke/VarHandle" ∧ (parseMethodDescriptor x2.desc).map (fun d => d.parameters.length) = some n) (hG : GoodIn lw_all (va_wsU y.cls index C owner x2 y2 (ws_ y2 cc2 L2 ret2))) (hrm : rm2.frames + 1 ≤ R.frames ∧ 8 + (L2 + 11) + rm2.locals ≤ R.locals) (hn : As.length = n) (hst : st = As.reverse ++ .ref a :: rest) (hw : (rest.map fun v => v.category).sum ≤ 8) (hf : mc + rm2.cells ≤ R.cells ∧ ms + rm2.slots ≤ R.slots) (hdg : decode cc pc = .ok (.invokevirtual index, 3))
    (kk : ∀ (v : Option Value) (h' : zz_H), post v h' → zz_J p l e R s m args below meth c g nL Q h' (mc + rm2.cells) (ms + rm2.slots) (pc + 3) lo (v.toList ++ rest)) : zz_J p l e R s m args below meth c g nL Q h mc ms pc lo st := by
  refine zj_run (rest := rest) (aa := (Value.ref a :: As).toArray) (fun H locs ls hR hS hl => ?_) kk
  exact va_runU (As := As) (rest := rest) X.fix hM (va_cwU n X.ts hG rfl rfl rfl hyx hd hrm) ⟨zz_P.blind, hr H locs hR hS, fun U hU hW => zz_P.at' X.W hR hS hU hW⟩ rfl hn hl.1 hst (lv_room hw) hdg hf
end ZCF
end ZR
theorem lw_F {own : String} {idx : Nat} {C : String} {x y : MethodName} {b : ByteArray} {L : Nat} {r : Option FieldType} (h1 : Cond.methodLink own idx x ∈ lw_all) (h2 : Cond.selects C x y ∈ lw_all) (h3 : Cond.instanceMethod y ∈ lw_all) (h4 : Cond.initialized y.cls ∈ lw_all) (h5 : Cond.code y b L r ∈ lw_all) : GoodIn lw_all (va_wsF own idx C x y (ws_ y b L r)) := by
  refine lw_app ?_ (lw_meth h5)
  intro w hw
  simp only [List.mem_cons, List.not_mem_nil, or_false] at hw
  rcases hw with e | e | e | e
  · rw [e]; exact h1
  · rw [e]; exact h2
  · rw [e]; exact h3
  · rw [e]; exact h4
theorem lw_U {own : String} {idx : Nat} {C owner : String} {x y : MethodName} {b : ByteArray} {L : Nat} {r : Option FieldType} (h1 : Cond.methodLink own idx x ∈ lw_all) (h2 : Cond.sameMethod x.cls owner x.name x.desc ∈ lw_all) (h3 : Cond.selects C x y ∈ lw_all) (h4 : Cond.instanceMethod y ∈ lw_all) (h5 : Cond.initialized y.cls ∈ lw_all) (h6 : Cond.code y b L r ∈ lw_all) : GoodIn lw_all (va_wsU own idx C owner x y (ws_ y b L r)) := by
  refine lw_app ?_ (lw_meth h6)
  intro w hw
  simp only [List.mem_cons, List.not_mem_nil, or_false] at hw
  rcases hw with e | e | e | e | e
  · rw [e]; exact h1
  · rw [e]; exact h2
  · rw [e]; exact h3
  · rw [e]; exact h4
  · rw [e]; exact h5
