set_option maxRecDepth 100000
/-! METHODS THAT THROW, in my layer -/
theorem lt_in (ws : List Cond) (ps : List Nat) (hp : ws = ps.filterMap (fun i => lw_tbl[i]?)) : ∀ w ∈ ws, w ∈ lw_tbl := by
  intro w h
  rw [hp] at h
  obtain ⟨i, -, hi⟩ := List.mem_filterMap.mp h
  exact List.mem_of_getElem? hi
def zz_QX (g : zz_G) (px : String → zz_H → Prop) : String → State → State → Prop := fun E st t => (∃ h' : zz_H, px E h' ∧ zz_R g t.heap h') ∧ va_F (gF g) st t
/-- as zz_C, of a method that returns or throws; px: what is thrown, the picture behind it -/
def zz_CX (l : Launch) (g : zz_G) (y : MethodName) (cc : ByteArray) (maxL : Nat) (ret : Option FieldType) (rm : Room) (av : List Value) (h : zz_H) (post : Option Value → zz_H → Prop) (px : String → zz_H → Prop) : Prop :=
  vx_Met l y (ws_ y cc maxL ret) rm (zz_P g av h) (zz_Q g post) (zz_QX g px) rm.cells rm.slots (gF g)
section ZJX
variable {p : Program} {l : Launch} {e : Env} {R : Room} {s : State} {m : MethodId} {args : Array Value} {below : List Frame} {meth : Method} {c : Code} {g : zz_G} {y : MethodName} {cc : ByteArray} {nL : Nat} {ret : Option FieldType} {Q : State → Prop} {h : zz_H} {mc ms pc : Nat} {lo : List (Nat × Value)} {rest : List Value}
/-- an exception of the named kind is thrown over the frame at pc -/
def zz_JX (p : Program) (l : Launch) (e : Env) (R : Room) (s : State) (m : MethodId) (args : Array Value) (below : List Frame) (meth : Method) (c : Code) (g : zz_G) (nL : Nat) (Q : State → Prop) (h : zz_H) (mc ms pc : Nat) (lo : List (Nat × Value)) (E : String) : Prop :=
  ∀ (H : Heap) (locs : List Loc) (ls : Array Slot) (rest : List Value) (q : Addr) (ce : Cell), zz_R g H h → va_S (gF g) s.heap H locs → lv_has ls nL lo → H[q]? = some ce → ce.vm = .none → s.vm.findClass E = some ce.cls → vx_W p l e R s m args below meth c H locs mc ms Q (F0 m pc ls rest) q
theorem zz_X.tbl (X : zz_X l g y cc nL ret p s m args meth c) {w : Cond} (hw : w ∈ lw_tbl) (hg : (goodWord w || w.tabsOnly) = true) : w.before args s = true := by
  rcases Bool.or_eq_true_iff.mp hg with h | h
  · exact X.ts w (lw_g hw h)
  · have h1 := Cond.tabsOnly_warm (args' := args) (T := s) (State.WarmedH.refl s) w h (X.W.1.2.1 w hw h)
    rwa [State.setVm_self] at h1
theorem zjx_run {mc2 ms2 : Nat} {st : List Value} {post : Option Value → zz_H → Prop} {px : String → zz_H → Prop} {aa : Array Value} (hr : ∀ (H : Heap) (locs : List Loc) (ls : Array Slot), zz_R g H h → va_S (gF g) s.heap H locs → lv_has ls nL lo → vx_Run p l e R s m args below meth c H locs mc ms mc2 ms2 (F0 m pc ls st) rest (zz_Q g post aa) (zz_QX g px) (gF g))
    (kk : ∀ (v : Option Value) (h' : zz_H), post v h' → zz_J p l e R s m args below meth c g nL Q h' (mc + mc2) (ms + ms2) (pc + 3) lo (v.toList ++ rest))
    (kx : ∀ (E : String) (h' : zz_H), px E h' → zz_JX p l e R s m args below meth c g nL Q h' (mc + mc2) (ms + ms2) pc lo E) : zz_J p l e R s m args below meth c g nL Q h mc ms pc lo st := by
  intro H locs ls hR hS hl T hT X
  have keep : ∀ {st₀ t T' : State} {L : List Loc}, st₀.heap = H → T'.heap = t.heap → (∀ q ∈ L, gF g q.base) → va_F (gF g) st₀ t → va_S (gF g) s.heap T'.heap (locs ++ L) := by
    intro st₀ t T' L h0 e1 hL hF
    obtain ⟨hz, hk⟩ := hF
    rw [h0] at hz hk
    exact ⟨Nat.le_trans hS.1 (by rw [e1]; exact hz), fun q h1 h2 => by rw [e1, hk q (Nat.lt_of_lt_of_le h1 hS.1) h2]; exact hS.2.1 q h1 h2, fun q hq => by
      rcases List.mem_append.mp hq with h | h
      · exact hS.2.2 q h
      · exact hL q h⟩
  rcases hr H locs ls hR hS hl T hT X with ⟨v, st₀, t, T', L, h0, X', hL, e1, e2, ⟨⟨v', h', hv, hp, hh⟩, hF⟩, sp⟩ | ⟨q, st₀, t, T', L, E, ce, h0, X', hL, e1, e2, ⟨⟨h', hp, hh⟩, hF⟩, hce, hcv, hcl, sp⟩
  · cases hv
    obtain ⟨t2, a1, b1⟩ := kk v h' hp T'.heap (locs ++ L) ls (by rw [e1]; exact hh) (keep h0 e1 hL hF) hl T' rfl X'
    exact ⟨t2, sp t2 a1, b1⟩
  · obtain ⟨t2, a1, b1⟩ := kx E h' hp T'.heap (locs ++ L) ls rest q ce (by rw [e1]; exact hh) (keep h0 e1 hL hF) hl (by rw [e1]; exact hce) hcv hcl T' rfl X'
    exact ⟨t2, sp.trans a1, b1⟩
section ZCX
variable {y2 : MethodName} {cc2 : ByteArray} {L2 index n : Nat} {ret2 : Option FieldType} {rm2 : Room} {As : List Value} {post : Option Value → zz_H → Prop} {px : String → zz_H → Prop} {st : List Value}
theorem zjx_callV (X : zz_X l g y cc nL ret p s m args meth c) {a ci : Nat} {fs : List Value} {q : vw_C} (hM : zz_CX l g y2 cc2 L2 ret2 rm2 (.ref a :: As) h post px) (ha : h a = some (eO ci fs)) (hc : vwCl[ci]? = some q) (hq : y2.cls = q.1) (hok : zz_ok y2 n) (hG : GoodIn lw_all (wsV y.cls index q.1 y2 (ws_ y2 cc2 L2 ret2))) (hrm : rm2.frames + 1 ≤ R.frames ∧ 8 + (L2 + 11) + rm2.locals ≤ R.locals) (hn : As.length = n) (hst : st = As.reverse ++ .ref a :: rest) (hw : (rest.map fun v => v.category).sum ≤ 8) (hf : mc + rm2.cells ≤ R.cells ∧ ms + rm2.slots ≤ R.slots) (hdg : decode cc pc = .ok (.invokevirtual index, 3))
    (kk : ∀ (v : Option Value) (h' : zz_H), post v h' → zz_J p l e R s m args below meth c g nL Q h' (mc + rm2.cells) (ms + rm2.slots) (pc + 3) lo (v.toList ++ rest))
    (kx : ∀ (E : String) (h' : zz_H), px E h' → zz_JX p l e R s m args below meth c g nL Q h' (mc + rm2.cells) (ms + rm2.slots) pc lo E) : zz_J p l e R s m args below meth c g nL Q h mc ms pc lo st := by
  refine zjx_run (rest := rest) (aa := (Value.ref a :: As).toArray) (fun H locs ls hR hS hl => ?_) kk kx
  exact vx_runV (As := As) (rest := rest) X.fix hM (cwV n X.ts hG rfl rfl rfl ⟨hq, hok⟩ hrm) ⟨zz_P.blind, hR.recv X ha hc, fun U hU hW => zz_P.at' X.W hR hS hU hW⟩ rfl hn hl.1 hst (lv_room hw) hdg hf
theorem zjx_callS (X : zz_X l g y cc nL ret p s m args meth c) (hM : zz_CX l g y2 cc2 L2 ret2 rm2 As h post px) (hok : zz_ok y2 n) (hG : GoodIn lw_all (va_wsS y.cls index y2 (ws_ y2 cc2 L2 ret2))) (hrm : rm2.frames + 1 ≤ R.frames ∧ 8 + (L2 + 11) + rm2.locals ≤ R.locals) (hn : As.length = n) (hst : st = As.reverse ++ rest) (hw : (rest.map fun v => v.category).sum ≤ 8) (hf : mc + rm2.cells ≤ R.cells ∧ ms + rm2.slots ≤ R.slots) (hdg : decode cc pc = .ok (.invokestatic index, 3))
    (kk : ∀ (v : Option Value) (h' : zz_H), post v h' → zz_J p l e R s m args below meth c g nL Q h' (mc + rm2.cells) (ms + rm2.slots) (pc + 3) lo (v.toList ++ rest))
    (kx : ∀ (E : String) (h' : zz_H), px E h' → zz_JX p l e R s m args below meth c g nL Q h' (mc + rm2.cells) (ms + rm2.slots) pc lo E) : zz_J p l e R s m args below meth c g nL Q h mc ms pc lo st := by
  refine zjx_run (rest := rest) (aa := As.toArray) (fun H locs ls hR hS hl => ?_) kk kx
  exact vx_runS (As := As) (rest := rest) X.fix hM (va_cwS n X.ts hG rfl rfl rfl hok hrm) ⟨zz_P.blind, fun U hU hW => zz_P.at' X.W hR hS hU hW⟩ rfl hn hl.1 hst (lv_room hw) hdg hf
end ZCX
section ZEX
variable {post : Option Value → zz_H → Prop} {px : String → zz_H → Prop} {MC MS : Nat}
theorem zj_vx {st : List Value} (hQ : Q = vx_MQ below (zz_Q g post) (zz_QX g px) args s MC MS (gF g)) (k : zz_J p l e R s m args below meth c g nL (MQ below (zz_Q g post) args s MC MS (gF g)) h mc ms pc lo st) : zz_J p l e R s m args below meth c g nL Q h mc ms pc lo st := fun H locs ls hR hS hl => by
  subst hQ
  exact vx_ret (k H locs ls hR hS hl)
/-- an exception leaves the method -/
theorem zjx_out (X : zz_X l g y cc nL ret p s m args meth c) (hno : ∀ x ∈ c.exceptionTable.toList, False) (hQ : Q = vx_MQ below (zz_Q g post) (zz_QX g px) args s MC MS (gF g)) {E : String} (hp : px E h) (hmc : mc ≤ MC) (hms : ms ≤ MS) : zz_JX p l e R s m args below meth c g nL Q h mc ms pc lo E := fun H locs ls rest q ce hR hS hl hq hv hcl => by
  subst hQ
  exact vx_out (fun x hx => (hno x hx).elim) X.locks hq hv hcl (fun t ht _ => ⟨⟨h, hp, by rw [ht]; exact hR⟩, hS.F ht⟩) hS.2.2 hmc hms
/-- throw new E() -/
theorem zjx_throw (X : zz_X l g y cc nL ret p s m args meth c) (hno : ∀ x ∈ c.exceptionTable.toList, False) (hQ : Q = vx_MQ below (zz_Q g post) (zz_QX g px) args s MC MS (gF g)) (hl : l.stackTraces = false) {E : String} {ik ic : Nat} {names : List String} (hcls : Bundle.fit E = true) (hnames : ∀ n ∈ names, Bundle.fit n = true) (hk : Cond.classLink y.cls ik E ∈ lw_all) (hini : Cond.initialized E ∈ lw_all)
    (hat : ∀ w ∈ vx_at0 y.cls ic E names, w ∈ lw_tbl) (hat2 : (vx_at0 y.cls ic E names).all (fun w => (goodWord w || w.tabsOnly)) = true) (hgood : (Cond.classLink y.cls ik E :: Cond.initialized E :: vx_at0 y.cls ic E names).all vx_ot = true)
    (d0 : decode cc pc = .ok (.new ik, 3)) (d3 : decode cc (pc + 3) = .ok (.dup, 1)) (d4 : decode cc (pc + 4) = .ok (.invokespecial ic, 3)) (d7 : decode cc (pc + 7) = .ok (.athrow, 1))
    (hf : names.length + 3 < R.frames) (hlo : (rest.map fun v => v.category).sum + (13 * (names.length + 1) + 42) ≤ R.locals) (hc : mc + 1 ≤ R.cells) (hs : ms + 6 ≤ R.slots) (hmc : mc + 1 ≤ MC) (hms : ms + 6 ≤ MS) (hp : px E h) : zz_J p l e R s m args below meth c g nL Q h mc ms pc lo rest := fun H locs ls hR hS hll => by
  subst hQ
  refine vx_throw0 X.1 X.2.1 hl X.own hcls hnames (X.ts _ hk) (X.ts _ hini) (fun w hw => X.tbl (hat w hw) (List.all_eq_true.mp hat2 w hw)) (List.all_eq_true.mp hgood) X.W.2.1.1 X.W.2.1.2.1 hS (by rw [X.2.2.1]; exact hll.1) d0 d3 d4 d7 (fun x hx => (hno x hx).elim) hf hlo hc hs X.locks (fun t hA hz ho => ⟨⟨h, hp, hR.grow ho⟩, ⟨Nat.le_trans hS.1 hz, fun q h1 h2 => (ho q (Nat.lt_of_lt_of_le h1 hS.1)).trans (hS.2.1 q h1 h2)⟩⟩) hS.2.2 hmc hms
end ZEX
/-- an exception is caught by the handler x of the method's table -/
theorem zjx_catch (X : zz_X l g y cc nL ret p s m args meth c) {name E : String} (pre : List ExceptionTableEntry) (x : ExceptionTableEntry) (suf : List ExceptionTableEntry) (hsplit : c.exceptionTable.toList = pre ++ x :: suf)
    (hpass : ∀ z ∈ pre, covers z pc = false ∨ (z.catchType ≠ 0 ∧ ∃ nm : String, Cond.classLink y.cls z.catchType nm ∈ lw_all ∧ (E, nm) ∈ zz_nc)) (hx : covers x pc = true) (h0 : x.catchType ≠ 0) (hlink : Cond.classLink y.cls x.catchType name ∈ lw_all) (hcast : Cond.castable E name ∈ lw_tbl)
    (kk : ∀ q : Nat, zz_J p l e R s m args below meth c g nL Q h mc ms x.handlerPc lo [.ref q]) : zz_JX p l e R s m args below meth c g nL Q h mc ms pc lo E := fun H locs ls rest q ce hR hS hl hq hv hcl =>
  vx_catch X.own pre x suf hsplit (fun z hz => (hpass z hz).imp id (fun ⟨h1, nm, h2, h3⟩ => ⟨h1, nm, X.ts _ h2, X.W.1.2.2.2.2.1 _ h3⟩)) hx h0 (X.ts _ hlink) (X.tbl hcast (by rfl)) hq hv hcl (kk q H locs ls hR hS hl)
end ZJX
theorem zz_CX.of {l : Launch} {g : zz_G} {y : MethodName} {cc : ByteArray} {maxL : Nat} {ret : Option FieldType} {rm : Room} {av : List Value} {h : zz_H} {post : Option Value → zz_H → Prop} {px : String → zz_H → Prop} (hy : plainName y.cls = true) (hlv : (lg_sl av).length ≤ maxL)
    (body : ∀ (p : Program) (e : Env) (s : State) (m : MethodId) (args : Array Value) (below : List Frame) (meth : Method) (c : Code), zz_X l g y cc maxL ret p s m args meth c → (∀ x ∈ c.exceptionTable.toList, False) → ∀ Q, Q = vx_MQ below (zz_Q g post) (zz_QX g px) args s rm.cells rm.slots (gF g) → zz_J p l e rm s m args below meth c g maxL Q h 0 0 0 (lv_args 0 av) []) : zz_CX l g y cc maxL ret rm av h post px := by
  refine vx_ofW (cc := cc) (maxL := maxL) (ret := ret) hy rfl ?_
  intro p e s m args below meth c s₁ B hml hno hv
  obtain ⟨rfl, hW, hR⟩ := hv
  have hts := atoms_spec (ws := ws_ y cc maxL ret) B.pre
  have hts : ∀ w ∈ lw_all, w.before _ s = true := fun w h => hts w (List.mem_cons_of_mem _ h)
  have X : zz_X l g y cc maxL ret p s m av.toArray meth c := ⟨B.exec, B.bytes, hml, B.returns, hts, findClass_of_methodNamed B.named, B.notSynchronized, (name_of_methodNamed B.named B.method).1, hW⟩
  have hl := lv_entry av (n := maxL) hlv
  rw [lg_entry_eq]
  exact body p e s m _ below meth c X hno _ rfl s.heap [] _ hR va_S.rf hl

def xn_IAE : String := "java/lang/IllegalArgumentException"
abbrev xw_IAE : List Cond := vx_at0 RX1 15 xn_IAE ["java/lang/RuntimeException", "java/lang/Exception"]
theorem xa_IAE : ∀ w ∈ xw_IAE, w ∈ lw_tbl := lt_in xw_IAE [51, 227, 236, 242, 245, 247, 228, 229, 86, 87, 230, 235, 243, 260, 217, 261, 219, 262, 221, 231, 233, 223, 473, 474, 475, 252, 208, 252, 253, 254, 255, 210, 255, 256, 257, 228, 212, 472, 464, 465, 466, 239, 467, 468, 469, 470, 258, 225, 471] (by decide +kernel)
theorem xb_IAE : xw_IAE.all (fun w => (goodWord w || w.tabsOnly)) = true := by decide +kernel
theorem xc_IAE : (Cond.classLink RX1 13 xn_IAE :: Cond.initialized xn_IAE :: xw_IAE).all vx_ot = true := by decide +kernel
def xn_ISE : String := "java/lang/IllegalStateException"
abbrev xw_ISE : List Cond := vx_at0 RX1 18 xn_ISE ["java/lang/RuntimeException", "java/lang/Exception"]
theorem xa_ISE : ∀ w ∈ xw_ISE, w ∈ lw_tbl := lt_in xw_ISE [51, 227, 236, 242, 245, 247, 228, 229, 86, 87, 230, 235, 243, 260, 217, 261, 219, 262, 221, 231, 233, 223, 491, 492, 493, 252, 208, 252, 253, 254, 255, 210, 255, 256, 257, 228, 212, 490, 482, 483, 484, 240, 485, 486, 487, 488, 258, 225, 489] (by decide +kernel)
theorem xb_ISE : xw_ISE.all (fun w => (goodWord w || w.tabsOnly)) = true := by decide +kernel
theorem xc_ISE : (Cond.classLink RX1 16 xn_ISE :: Cond.initialized xn_ISE :: xw_ISE).all vx_ot = true := by decide +kernel
def xn_NSE : String := "java/util/NoSuchElementException"
abbrev xw_NSE : List Cond := vx_at0 RX1 21 xn_NSE ["java/lang/RuntimeException", "java/lang/Exception"]
theorem xa_NSE : ∀ w ∈ xw_NSE, w ∈ lw_tbl := lt_in xw_NSE [51, 227, 236, 242, 245, 247, 228, 229, 86, 87, 230, 235, 243, 260, 217, 261, 219, 262, 221, 231, 233, 223, 249, 250, 251, 252, 208, 252, 253, 254, 255, 210, 255, 256, 257, 228, 212, 1094, 206, 207, 214, 215, 216, 218, 220, 222, 258, 225, 224] (by decide +kernel)
theorem xb_NSE : xw_NSE.all (fun w => (goodWord w || w.tabsOnly)) = true := by decide +kernel
theorem xc_NSE : (Cond.classLink RX1 19 xn_NSE :: Cond.initialized xn_NSE :: xw_NSE).all vx_ot = true := by decide +kernel
def xn_IOB : String := "java/lang/IndexOutOfBoundsException"
abbrev xw_IOB : List Cond := vx_at0 RX1 9 xn_IOB ["java/lang/RuntimeException", "java/lang/Exception"]
theorem xa_IOB : ∀ w ∈ xw_IOB, w ∈ lw_tbl := lt_in xw_IOB [51, 227, 236, 242, 245, 247, 228, 229, 86, 87, 230, 235, 243, 260, 217, 261, 219, 262, 221, 231, 233, 223, 656, 657, 658, 252, 208, 252, 253, 254, 255, 210, 255, 256, 257, 228, 212, 655, 647, 648, 649, 241, 650, 651, 652, 653, 258, 225, 654] (by decide +kernel)
theorem xb_IOB : xw_IOB.all (fun w => (goodWord w || w.tabsOnly)) = true := by decide +kernel
theorem xc_IOB : (Cond.classLink RX1 7 xn_IOB :: Cond.initialized xn_IOB :: xw_IOB).all vx_ot = true := by decide +kernel
