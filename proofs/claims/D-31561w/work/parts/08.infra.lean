set_option maxRecDepth 100000
/-! MY LAYER: the objects and arrays that the proof knows, as a partial map from addresses; a judgement zz_J over it; a row an instruction -/
abbrev vwCl : List vw_C := [(RX1, TX1, 5), (RX2, TX2, 20), (RX3, TX3, 8), (RX4, TX4, 7), (RX5, TX5, 5), (RX6, TX6, 5), (RJ2, TJ2, 3), (RJ18, TJ18, 4), (RJ17, TJ17, 9), (RJ25, TJ25, 6), (RJ21, TJ21, 1), (RJ22, TJ22, 1), (RJ24, TJ24, 4)]
/-- what is known of a cell: an object (class by its place in vwCl, fields), an array of ints (0) or booleans (1), of longs, of references, an object of a lambda's class -/
abbrev zz_E : Type := (Nat × List Value) ⊕ ((Nat × Nat × (Nat → Int32)) ⊕ ((Nat × (Nat → Int64)) ⊕ ((Nat × (Nat → Option Nat)) ⊕ (Nat × List Value))))
abbrev eO (ci : Nat) (fs : List Value) : zz_E := .inl (ci, fs)
abbrev eI (n : Nat) (f : Nat → Int32) : zz_E := .inr (.inl (0, n, f))
abbrev eZ (n : Nat) (f : Nat → Int32) : zz_E := .inr (.inl (1, n, f))
abbrev eJ (n : Nat) (f : Nat → Int64) : zz_E := .inr (.inr (.inl (n, f)))
abbrev eR (n : Nat) (f : Nat → Option Nat) : zz_E := .inr (.inr (.inr (.inl (n, f))))
abbrev eM (k : Nat) (vs : List Value) : zz_E := .inr (.inr (.inr (.inr (k, vs))))
abbrev zz_H : Type := Nat → Option zz_E
def zz_up (h : zz_H) (a : Nat) (e : zz_E) : zz_H := fun q => if q = a then some e else h q
theorem zz_up_s {h : zz_H} {a : Nat} {e : zz_E} : zz_up h a e a = some e := if_pos rfl
theorem zz_up_n {h : zz_H} {a b : Nat} {e : zz_E} (n : b ≠ a) : zz_up h a e b = h b := if_neg n
theorem zz_up_u {h : zz_H} {a : Nat} {e e' : zz_E} : zz_up (zz_up h a e) a e' = zz_up h a e' := by
  funext q
  by_cases hq : q = a
  · simp [zz_up, hq]
  · simp [zz_up, hq]
/-- the fixed things of a run: class numbers and field places; array classes; lambda classes; the heap's size at the law's start; addresses of constants -/
abbrev zz_G : Type := va_G × ((Nat → ClassId) × ((Nat → ClassId) × (Nat × (Nat → Nat))))
def gD (g : zz_G) : va_G := g.1
def gA (g : zz_G) : Nat → ClassId := g.2.1
def gL (g : zz_G) : Nat → ClassId := g.2.2.1
def gZ (g : zz_G) : Nat := g.2.2.2.1
def gC (g : zz_G) : Nat → Nat := g.2.2.2.2
def gF (g : zz_G) : Nat → Prop := fun q => gZ g ≤ q
def gT (g : zz_G) : List (ClassId × FieldType) := [(gA g 0, .int), (gA g 1, .boolean), (gA g 2, .long), (gA g 3, .object "java/lang/Object")]
def zz_cell (g : zz_G) (a : Nat) (e : zz_E) (H : Heap) : Prop := match e with
  | .inl (ci, fs) => va_at (gD g) vwCl (a, .inr (ci, fs)) H
  | .inr (.inl (k, n, f)) => va_at (gD g) vwCl (a, .inl (gA g k, n, .inl f)) H
  | .inr (.inr (.inl (n, f))) => va_at (gD g) vwCl (a, .inl (gA g 2, n, .inr (.inl f))) H
  | .inr (.inr (.inr (.inl (n, f)))) => va_at (gD g) vwCl (a, .inl (gA g 3, n, .inr (.inr (.inr (.inr f))))) H
  | .inr (.inr (.inr (.inr (k, vs)))) => H[a]? = some { cls := gL g k, slots := vs.toArray, vm := .none }
theorem zz_cell.kept {g : zz_G} {a : Nat} {e : zz_E} {H H1 : Heap} (h : zz_cell g a e H) (hq : H1[a]? = H[a]?) : zz_cell g a e H1 := by
  match e, h with
  | .inl (ci, fs), h => exact va_at.kept (D := gD g) (cl := vwCl) (q := (a, .inr (ci, fs))) h hq
  | .inr (.inl (k, n, f)), h => exact va_at.kept (D := gD g) (cl := vwCl) (q := (a, .inl (gA g k, n, .inl f))) h hq
  | .inr (.inr (.inl (n, f))), h => exact va_at.kept (D := gD g) (cl := vwCl) (q := (a, .inl (gA g 2, n, .inr (.inl f)))) h hq
  | .inr (.inr (.inr (.inl (n, f)))), h => exact va_at.kept (D := gD g) (cl := vwCl) (q := (a, .inl (gA g 3, n, .inr (.inr (.inr (.inr f)))))) h hq
  | .inr (.inr (.inr (.inr (k, vs)))), h => exact hq.trans h
theorem zz_cell.lt {g : zz_G} {a : Nat} {e : zz_E} {H : Heap} (h : zz_cell g a e H) : a < H.size := by
  match e, h with
  | .inl (ci, fs), h => exact va_at.lt (D := gD g) (cl := vwCl) (q := (a, .inr (ci, fs))) h
  | .inr (.inl (k, n, f)), h => exact va_at.lt (D := gD g) (cl := vwCl) (q := (a, .inl (gA g k, n, .inl f))) h
  | .inr (.inr (.inl (n, f))), h => exact va_at.lt (D := gD g) (cl := vwCl) (q := (a, .inl (gA g 2, n, .inr (.inl f)))) h
  | .inr (.inr (.inr (.inl (n, f)))), h => exact va_at.lt (D := gD g) (cl := vwCl) (q := (a, .inl (gA g 3, n, .inr (.inr (.inr (.inr f)))))) h
  | .inr (.inr (.inr (.inr (k, vs)))), h => exact (Array.getElem?_eq_some_iff.mp h).1
/-- a TreeMap's field 'values' is not told: it holds null, or a Values of this map that is not in the picture -/
def zz_V (g : zz_G) (h : zz_H) (a : Nat) (v : Value) (H : Heap) : Prop := v = .null ∨ ∃ q, v = .ref q ∧ (h q = none ∨ h q = some (eO 11 [.ref a])) ∧ zz_cell g q (eO 11 [.ref a]) H ∧ gZ g ≤ q
def zz_at (g : zz_G) (h : zz_H) (a : Nat) (e : zz_E) (H : Heap) : Prop := match e with
  | .inl (8, fs) => ∃ v, zz_cell g a (eO 8 (fs.set 1 v)) H ∧ zz_V g h a v H
  | e => zz_cell g a e H
/-- the heap holds the picture -/
def zz_R (g : zz_G) (H : Heap) (h : zz_H) : Prop := ∀ (a : Nat) (e : zz_E), h a = some e → zz_at g h a e H ∧ gZ g ≤ a
theorem zz_at_O {g : zz_G} {h : zz_H} {a ci : Nat} {fs : List Value} {H : Heap} (hc : ci ≠ 8) : zz_at g h a (eO ci fs) H = zz_cell g a (eO ci fs) H := by
  unfold zz_at
  split
  · rename_i heq
    exact absurd (Prod.mk.inj (Sum.inl.inj heq)).1 hc
  · rfl
/-- an object's fields as they lie there: all but a TreeMap's 'values' -/
theorem zz_R.obj {g : zz_G} {H : Heap} {h : zz_H} (hR : zz_R g H h) {a ci : Nat} {fs : List Value} (ha : h a = some (eO ci fs)) : ∃ fs', zz_cell g a (eO ci fs') H ∧ (∀ k, (ci ≠ 8 ∨ k ≠ 1) → fs'[k]? = fs[k]?) ∧ fs'.length = fs.length ∧ (ci ≠ 8 → fs' = fs) ∧ (ci = 8 → ∃ v, fs' = fs.set 1 v ∧ zz_V g h a v H) := by
  have h1 := (hR a _ ha).1
  by_cases hc : ci = 8
  · subst hc
    obtain ⟨v, h2, h3⟩ := h1
    refine ⟨_, h2, fun k hk => ?_, by simp, fun z => absurd rfl z, fun _ => ⟨v, rfl, h3⟩⟩
    have hk1 : k ≠ 1 := hk.resolve_left (fun z => z rfl)
    rw [List.getElem?_set_ne (Ne.symm hk1)]
  · rw [zz_at_O hc] at h1
    exact ⟨fs, h1, fun _ _ => rfl, rfl, fun _ => rfl, fun z => absurd z hc⟩
theorem zz_at_lt {g : zz_G} {h : zz_H} {a : Nat} {e : zz_E} {H : Heap} (h1 : zz_at g h a e H) : a < H.size := by
  unfold zz_at at h1
  split at h1
  · obtain ⟨v, h2, -⟩ := h1
    exact h2.lt
  · exact h1.lt
theorem zz_R.lt {g : zz_G} {H : Heap} {h : zz_H} (hR : zz_R g H h) {a : Nat} {e : zz_E} (ha : h a = some e) : a < H.size := zz_at_lt (hR a e ha).1
theorem zz_R.new {g : zz_G} {H : Heap} {h : zz_H} (hR : zz_R g H h) : h H.size = none := by
  cases hx : h H.size with
  | none => rfl
  | some e => exact absurd (hR.lt hx) (Nat.lt_irrefl _)
theorem zz_V.step {g : zz_G} {h h' : zz_H} {a a0 : Nat} {v : Value} {H H1 : Heap} (hv : zz_V g h a v H) (oq : ∀ q : Nat, q < H.size → q ≠ a0 → H1[q]? = H[q]?) (hh : ∀ q : Nat, q < H.size → (h q = none ∨ h q = some (eO 11 [.ref a])) → (h' q = none ∨ h' q = some (eO 11 [.ref a])) ∧ q ≠ a0) : zz_V g h' a v H1 := by
  rcases hv with hv | ⟨q, h1, h2, h3, h6⟩
  · exact Or.inl hv
  · obtain ⟨h4, h5⟩ := hh q h3.lt h2
    exact Or.inr ⟨q, h1, h4, h3.kept (oq q h3.lt h5), h6⟩
theorem zz_at.step {g : zz_G} {h h' : zz_H} {a a0 : Nat} {e : zz_E} {H H1 : Heap} (h1 : zz_at g h a e H) (oq : ∀ q : Nat, q < H.size → q ≠ a0 → H1[q]? = H[q]?) (hh : ∀ q b : Nat, q < H.size → (h q = none ∨ h q = some (eO 11 [.ref b])) → (h' q = none ∨ h' q = some (eO 11 [.ref b])) ∧ q ≠ a0) (ha : a ≠ a0) : zz_at g h' a e H1 := by
  have hlt := zz_at_lt h1
  unfold zz_at at h1 ⊢
  split at h1
  · obtain ⟨v, h2, h3⟩ := h1
    exact ⟨v, h2.kept (oq a hlt ha), h3.step oq (fun q => hh q a)⟩
  · exact h1.kept (oq a hlt ha)
/-- an old cell is written: the picture behind it -/
theorem zz_R.set {g : zz_G} {H H1 : Heap} {h : zz_H} (hR : zz_R g H h) {a : Nat} {e0 e : zz_E} (ha : h a = some e0) (h11 : ∀ b, e0 ≠ eO 11 [.ref b]) (oq : ∀ q : Nat, q ≠ a → H1[q]? = H[q]?) (he : zz_at g (zz_up h a e) a e H1) : zz_R g H1 (zz_up h a e) := by
  intro b x hb
  by_cases hba : b = a
  · subst hba
    rw [zz_up_s] at hb
    cases hb
    exact ⟨he, (hR b _ ha).2⟩
  · rw [zz_up_n hba] at hb
    refine ⟨(hR b x hb).1.step (a0 := a) (fun q _ hq => oq q hq) (fun q b2 _ hq => ?_) hba, (hR b x hb).2⟩
    have hqa : q ≠ a := fun z => by
      rw [z, ha] at hq
      rcases hq with hq | hq
      · cases hq
      · exact h11 b2 (Option.some.inj hq)
    exact ⟨by rw [zz_up_n hqa]; exact hq, hqa⟩
/-- a new cell at the heap's end -/
theorem zz_R.push {g : zz_G} {H H1 : Heap} {h : zz_H} (hR : zz_R g H h) {e : zz_E} (hz : gZ g ≤ H.size) (oq : ∀ q : Nat, q < H.size → H1[q]? = H[q]?) (he : zz_at g (zz_up h H.size e) H.size e H1) : zz_R g H1 (zz_up h H.size e) := by
  intro b x hb
  by_cases hba : b = H.size
  · subst hba
    rw [zz_up_s] at hb
    cases hb
    exact ⟨he, hz⟩
  · rw [zz_up_n hba] at hb
    refine ⟨(hR b x hb).1.step (a0 := H.size) (fun q hq _ => oq q hq) (fun q b2 hq1 hq => ?_) hba, (hR b x hb).2⟩
    have hqa : q ≠ H.size := Nat.ne_of_lt hq1
    exact ⟨by rw [zz_up_n hqa]; exact hq, hqa⟩
/-- garbage, or other cells that nobody knows: old cells stay -/
theorem zz_R.grow {g : zz_G} {H H1 : Heap} {h : zz_H} (hR : zz_R g H h) (oq : ∀ q : Nat, q < H.size → H1[q]? = H[q]?) : zz_R g H1 h := by
  intro b x hb
  have hlt := hR.lt hb
  exact ⟨(hR b x hb).1.step (a0 := H.size) (fun q hq _ => oq q hq) (fun q b2 hq1 hq => ⟨hq, Nat.ne_of_lt hq1⟩) (Nat.ne_of_lt hlt), (hR b x hb).2⟩
/-- one knows less -/
theorem zz_R.mono {g : zz_G} {H : Heap} {h h' : zz_H} (hR : zz_R g H h') (hh : ∀ (a : Nat) (e : zz_E), h a = some e → h' a = some e) : zz_R g H h := by
  intro b x hb
  have h1 := (hR b x (hh b x hb)).1
  refine ⟨?_, (hR b x (hh b x hb)).2⟩
  unfold zz_at at h1 ⊢
  split at h1
  · obtain ⟨v, h2, h3⟩ := h1
    refine ⟨v, h2, ?_⟩
    rcases h3 with h3 | ⟨q, q1, q2, q3⟩
    · exact Or.inl h3
    · refine Or.inr ⟨q, q1, ?_, q3⟩
      cases hq : h q with
      | none => exact Or.inl rfl
      | some y =>
        rw [hh q y hq] at q2
        exact Or.inr (q2.resolve_left (fun z => by cases z))
  · exact h1
/-! the world: what holds of the tables and of the constants, all through the run -/
/-- a lambda's call site, linked: x at pc, entry ix, shape sh: class c, its one object -/
def zz_Ls (U : State) (x : MethodName) (pc ix : Nat) (sh : Lambda.Shape) (c : ClassId) (one : Option Addr) : Prop :=
  ∃ (m : MethodId) (k : Class) (cf : ClassFile) (i0 p0 : Nat) (l : Linked), U.methodNamed? x = some m ∧ U.vm.classes[m.cls]? = some k ∧ k.cf = some cf ∧ Lambda.shapeOf? cf ix = some sh ∧
    (k.callSites.find? fun y => y.1 == m.idx && y.2.1 == pc) = some (i0, p0, l) ∧ Lambda.isMade { classPath := fun _ => none } U.vm m.cls sh c = true ∧ U.lambdaCallable sh c = true ∧
    ((∃ a, l = .constant a ∧ one = some a ∧ sh.captured = []) ∨ (l = .makes c ∧ one = none ∧ sh.captured ≠ []))
theorem zz_Ls.warm {s U : State} {x : MethodName} {pc ix : Nat} {sh : Lambda.Shape} {c : ClassId} {one : Option Addr} (hW : s.WarmedH U.vm) (h : zz_Ls s x pc ix sh c one) : zz_Ls U x pc ix sh c one := by
  obtain ⟨m, kc, cf, i0, p0, l, hm, hk, hcf, hsh, hfind, hmade, hcall, hl⟩ := h
  have hcall' : U.lambdaCallable sh c = true := by
    have hA := hW.alike
    simp only [State.lambdaCallable, hA.findClass, hA.assignable, hA.superclasses, hA.declaredIn] at hcall ⊢
    exact hcall
  obtain ⟨kc', hk', he⟩ := hW.alike.2.2 _ _ hk
  have hm' : U.methodNamed? x = some m := by
    have h1 := State.methodNamed?_setVm (s := s) hW.alike x
    rw [hm] at h1
    exact h1
  exact ⟨m, kc', cf, i0, p0, l, hm', hk', by rw [he]; exact hcf, hsh, by rw [he]; exact hfind, Lambda.isMade_warmer hW hmade, hcall', hl⟩
theorem zz_Ls.same {u U : State} {x : MethodName} {pc ix : Nat} {sh : Lambda.Shape} {c : ClassId} {one : Option Addr} (hv : u.vm = U.vm) (h : zz_Ls u x pc ix sh c one) : zz_Ls U x pc ix sh c one := by
  obtain ⟨m, kc, cf, i0, p0, l, hm, hk, hcf, hsh, hfind, hmade, hcall, hl⟩ := h
  have hm' : U.methodNamed? x = some m := by
    have h1 := State.methodNamed?_setVm (s := u) (vm' := U.vm) (by rw [hv]; exact Vm.Alike.refl _) x
    rw [hm] at h1
    exact h1
  have hcall' : U.lambdaCallable sh c = true := by
    simp only [State.lambdaCallable, hv] at hcall ⊢
    exact hcall
  exact ⟨m, kc, cf, i0, p0, l, hm', by rw [← hv]; exact hk, hcf, hsh, hfind, by rw [← hv]; exact hmade, hcall', hl⟩
def zz_nc : List (String × String) := [(RJ6, RJ11), (RJ7, RJ11), (RJ7, RJ6), (RJ19, RJ11), (RJ19, RJ7)]
def zz_x0 : MethodName := { cls := "Peerpanel", name := "<init>", desc := "()V" }
def zz_x1 : MethodName := { cls := "Peerpanel$Work", name := "within", desc := "()LPeerpanel$Sieve;" }
def zz_tP : FieldType := .object "Peerpanel$Person"
def zz_tR : FieldType := .object "Peerpanel$Review"
def zz_tW : FieldType := .object "Peerpanel$Work"
def zz_sh (k : Nat) : Lambda.Shape := match k with
  | 0 => { iface := "Peerpanel$Ahead", name := "is", sam := ⟨[zz_tP, zz_tP], some .boolean⟩, captured := [], kind := 6, implClass := "Peerpanel", implName := "lambda$new$0", implDesc := ⟨[zz_tP, zz_tP], some .boolean⟩, implItf := false, inst := ⟨[zz_tP, zz_tP], some .boolean⟩ }
  | 1 => { iface := "Peerpanel$Ahead", name := "is", sam := ⟨[zz_tP, zz_tP], some .boolean⟩, captured := [], kind := 6, implClass := "Peerpanel", implName := "lambda$new$1", implDesc := ⟨[zz_tP, zz_tP], some .boolean⟩, implItf := false, inst := ⟨[zz_tP, zz_tP], some .boolean⟩ }
  | 2 => { iface := "Peerpanel$Sieve", name := "lets", sam := ⟨[zz_tR], some .boolean⟩, captured := [], kind := 6, implClass := "Peerpanel$Work", implName := "lambda$within$0", implDesc := ⟨[zz_tR], some .boolean⟩, implItf := false, inst := ⟨[zz_tR], some .boolean⟩ }
  | 3 => { iface := "Peerpanel$Sieve", name := "lets", sam := ⟨[zz_tR], some .boolean⟩, captured := [], kind := 6, implClass := "Peerpanel$Work", implName := "lambda$within$1", implDesc := ⟨[zz_tR], some .boolean⟩, implItf := false, inst := ⟨[zz_tR], some .boolean⟩ }
  | _ => { iface := "Peerpanel$Sieve", name := "lets", sam := ⟨[zz_tR], some .boolean⟩, captured := [zz_tW, .int], kind := 5, implClass := "Peerpanel$Work", implName := "lambda$within$2", implDesc := ⟨[.int, zz_tR], some .boolean⟩, implItf := false, inst := ⟨[zz_tR], some .boolean⟩ }
/-- a method of an interface, declared -/
def zz_If (x : MethodName) (U : State) : Prop := va_Nw (.declares x) U ∧ va_Nw (.interfaceMethod x.cls x.cls x.name x.desc) U ∧ x.cls ≠ "java/lang/invoke/MethodHandle" ∧ x.cls ≠ "java/lang/invoke/VarHandle"
theorem zz_If.moved {x : MethodName} {u U : State} (hvm : u.vm.Alike U.vm) (h : zz_If x u) : zz_If x U := by
  obtain ⟨h1, h2, hx⟩ := h
  obtain ⟨r, meth, hn, -⟩ := Cond.declares_spec h1
  exact ⟨va_tabs rfl (rfl : (u.setVm U.vm).vm = U.vm) (A := #[]) (by rw [Cond.declares_setVm hvm]; exact h1), va_tabs rfl (rfl : (u.setVm U.vm).vm = U.vm) (A := #[]) (by rw [Cond.interfaceMethod_setVm hvm (r := r) hn hx]; exact h2), hx⟩
def zz_fx : List MethodName := [⟨"java/util/Iterator", "hasNext", "()Z"⟩, ⟨"java/util/Iterator", "next", "()Ljava/lang/Object;"⟩, ⟨"java/util/Collection", "iterator", "()Ljava/util/Iterator;"⟩, ⟨"java/lang/Comparable", "compareTo", "(Ljava/lang/Object;)I"⟩, ⟨"Peerpanel$Ahead", "is", "(LPeerpanel$Person;LPeerpanel$Person;)Z"⟩, ⟨"Peerpanel$Sieve", "lets", "(LPeerpanel$Review;)Z"⟩]
/-- the tables' part of the world -/
def zz_Wt (g : zz_G) (U : State) : Prop :=
  va_K (gD g) vwCl (gT g) U ∧ (∀ w ∈ lw_tbl, w.tabsOnly = true → va_Nw w U) ∧
  (∀ (a : String) (i : Nat) (b n d h : String), Cond.fieldLinkNest a i b n d h ∈ lw_tbl → va_Nw (.fieldLinkNest a i b n d h) U) ∧
  (∀ (a : String) (i : Nat) (x : MethodName) (h : String), Cond.methodLinkNest a i x h ∈ lw_tbl → va_Nw (.methodLinkNest a i x h) U) ∧
  (∀ q ∈ zz_nc, va_Nc q.1 q.2 U) ∧ va_Mi "[Ljava/lang/Object;" (gC g 258) U ∧
  zz_Ls U zz_x0 28 45 (zz_sh 0) (gL g 0) (some (gC g 260)) ∧ zz_Ls U zz_x0 37 53 (zz_sh 1) (gL g 1) (some (gC g 261)) ∧
  zz_Ls U zz_x1 11 93 (zz_sh 2) (gL g 2) (some (gC g 262)) ∧ zz_Ls U zz_x1 18 96 (zz_sh 3) (gL g 3) (some (gC g 263)) ∧ zz_Ls U zz_x1 29 101 (zz_sh 4) (gL g 4) none ∧ va_AO "java/lang/Object" U ∧ (∀ x ∈ zz_fx, zz_If x U)
/-- the one object of a lambda that captures nothing -/
def zz_Lo (g : zz_G) (k : Nat) (H : Heap) : Prop := H[gC g (260 + k)]? = some { cls := gL g k, slots := #[], vm := .none } ∧ ¬ gF g (gC g (260 + k))
theorem zz_Lo.kept {g : zz_G} {k : Nat} {H H1 : Heap} (h : zz_Lo g k H) (hq : ∀ a : Nat, a < H.size → ¬ gF g a → H1[a]? = H[a]?) : zz_Lo g k H1 := ⟨by rw [hq _ (Array.getElem?_eq_some_iff.mp h.1).1 h.2]; exact h.1, h.2⟩
/-- the constants' part -/
def zz_Wc (g : zz_G) (U : State) (H : Heap) : Prop :=
  vx_Zq Bundle.tN "UNASSIGNED_STACK" Bundle.steD (gF g) U H ∧ vx_Zq Bundle.tN "SUPPRESSED_SENTINEL" Bundle.listD (gF g) U H ∧
  va_Z "java/util/ArrayList" "DEFAULTCAPACITY_EMPTY_ELEMENTDATA" "[Ljava/lang/Object;" (.ref (gC g 256)) (gF g) U H ∧ va_T (.object "java/lang/Object") (gC g 256) 0 (fun _ => .null) (gF g) U H ∧
  va_Z "java/lang/Integer$IntegerCache" "high" "I" (.int 127) (gF g) U H ∧ va_Z "java/lang/Integer$IntegerCache" "cache" "[Ljava/lang/Integer;" (.ref (gC g 257)) (gF g) U H ∧
  va_T (.object "java/lang/Integer") (gC g 257) 256 (fun k => .ref (gC g k)) (gF g) U H ∧ vb_C (gC g) (gF g) U H ∧ (∀ k, k < 4 → zz_Lo g k H)
def zz_W (g : zz_G) (U : State) : Prop := zz_Wt g U ∧ zz_Wc g U U.heap ∧ gZ g ≤ U.heap.size
theorem va_Nc.mvd {C T : String} {u U : State} (hvm : u.vm.Alike U.vm) (h : va_Nc C T u) : va_Nc C T U := by
  obtain ⟨c, t, h1, h2, h3⟩ := h
  exact ⟨c, t, by rw [hvm.findClass]; exact h1, by rw [hvm.findClass]; exact h2, by rw [hvm.assignable]; exact h3⟩
theorem zz_Wt.warm {g : zz_G} {s U : State} (h : zz_Wt g s) (hW : s.WarmedH U.vm) : zz_Wt g U := by
  obtain ⟨h1, h2, h3, h4, h5, h6, h7, h8, h9, h10, h11, h12, h13⟩ := h
  exact ⟨va_K.moved hW.alike h1, fun w hw ht => Cond.tabsOnly_warm (T := U) hW w ht (h2 w hw ht), fun a i b n d h hw => va_Nw.warmF hW (h3 a i b n d h hw), fun a i x h hw => va_Nw.warmM hW (h4 a i x h hw),
    fun q hq => (h5 q hq).mvd hW.alike, va_Mi.moved hW.alike h6, h7.warm hW, h8.warm hW, h9.warm hW, h10.warm hW, h11.warm hW, h12.moved hW.alike, fun x hx => (h13 x hx).moved hW.alike⟩
theorem zz_Wc.moved {g : zz_G} {u U : State} {H : Heap} (hvm : u.vm.Alike U.vm) (h : zz_Wc g u H) : zz_Wc g U H := by
  obtain ⟨h1, h2, h3, h4, h5, h6, h7, h8, h9⟩ := h
  exact ⟨vx_Zq.moved hvm h1, vx_Zq.moved hvm h2, va_Z.moved hvm h3, va_T.moved hvm h4, va_Z.moved hvm h5, va_Z.moved hvm h6, va_T.moved hvm h7, vb_C.moved hvm h8, h9⟩
theorem zz_Wc.kept {g : zz_G} {U : State} {H H1 : Heap} (h : zz_Wc g U H) (hq : ∀ a : Nat, a < H.size → ¬ gF g a → H1[a]? = H[a]?) : zz_Wc g U H1 := by
  obtain ⟨h1, h2, h3, h4, h5, h6, h7, h8, h9⟩ := h
  exact ⟨h1.kept hq, h2.kept hq, h3.kept hq, h4.kept hq, h5.kept hq, h6.kept hq, h7.kept hq, h8.kept hq, fun k hk => (h9 k hk).kept hq⟩
theorem zz_Wt.same {g : zz_G} {u U : State} (h : zz_Wt g u) (hv : u.vm = U.vm) : zz_Wt g U := by
  have hA : u.vm.Alike U.vm := by rw [hv]; exact Vm.Alike.refl _
  obtain ⟨h1, h2, h3, h4, h5, h6, h7, h8, h9, h10, h11, h12, h13⟩ := h
  refine ⟨va_K.moved hA h1, fun w hw ht => ?_, fun a i b n d h hw => va_Nw.same rfl hv (h3 a i b n d h hw), fun a i x h hw => va_Nw.same rfl hv (h4 a i x h hw), fun q hq => (h5 q hq).mvd hA, va_Mi.moved hA h6, h7.same hv, h8.same hv, h9.same hv, h10.same hv, h11.same hv, h12.moved hA, fun x hx => (h13 x hx).moved hA⟩
  have e : (U.setVm u.vm) = U := by rw [hv]; rfl
  have h9 := Cond.tabsOnly_warm (T := U) (args' := #[]) (State.WarmedH.refl u) w ht (h2 w hw ht)
  rw [e] at h9
  exact h9
theorem zz_W.same {g : zz_G} {u U : State} (h : zz_W g u) (hv : u.vm = U.vm) (hh : u.heap = U.heap) : zz_W g U :=
  ⟨h.1.same hv, by rw [← hh]; exact zz_Wc.moved (by rw [hv]; exact Vm.Alike.refl _) h.2.1, by rw [← hh]; exact h.2.2⟩
theorem zz_W.warm {g : zz_G} {s U : State} (h : zz_W g s) (hW : s.WarmedH U.vm) {locs : List Loc} (hS : va_S (gF g) s.heap U.heap locs) : zz_W g U :=
  ⟨h.1.warm hW, (zz_Wc.moved hW.alike h.2.1).kept hS.2.1, Nat.le_trans h.2.2 hS.1⟩
/-! contracts -/
def zz_Q (g : zz_G) (post : Option Value → zz_H → Prop) : Array Value → State → Outcome → State → Prop := fun _ st oc t => (∃ (v : Option Value) (h' : zz_H), oc = .returned v ∧ post v h' ∧ zz_R g t.heap h') ∧ va_F (gF g) st t
def zz_P (g : zz_G) (av : List Value) (h : zz_H) : Array Value → State → Prop := va_Pc av (fun U => zz_W g U ∧ zz_R g U.heap h)
abbrev zz_rm (fr lo mc ms : Nat) : Room := { frames := fr, cells := mc, slots := ms, locals := lo }
/-- method y with code cc: called with av in a heap that holds h it returns; post: its answer, the picture behind it -/
def zz_C (l : Launch) (g : zz_G) (y : MethodName) (cc : ByteArray) (maxL : Nat) (ret : Option FieldType) (rm : Room) (av : List Value) (h : zz_H) (post : Option Value → zz_H → Prop) : Prop :=
  Met l y (ws_ y cc maxL ret) rm (zz_P g av h) (zz_Q g post) rm.cells rm.slots (gF g)
theorem zz_P.blind {g : zz_G} {av : List Value} {h : zz_H} : FrameBlind (zz_P g av h) := fun a U k mk q => ⟨q.1, q.2.1.same rfl rfl, q.2.2⟩
theorem zz_P.at' {g : zz_G} {av : List Value} {h : zz_H} {s U : State} {H : Heap} {locs : List Loc} (hW : zz_W g s) (hR : zz_R g H h) (hS : va_S (gF g) s.heap H locs) (hU : U.heap = H) (hw : s.WarmedH U.vm) : zz_P g av h av.toArray U :=
  ⟨rfl, hW.warm hw (by rw [hU]; exact hS), by rw [hU]; exact hR⟩
/-- what is known all through a body -/
def zz_X (l : Launch) (g : zz_G) (y : MethodName) (cc : ByteArray) (maxL : Nat) (ret : Option FieldType) (p : Program) (s : State) (m : MethodId) (args : Array Value) (meth : Method) (c : Code) : Prop :=
  p.tables.exec = Jvm.exec ∧ c.code = cc ∧ c.maxLocals = maxL ∧ meth.sig.returnType = ret ∧ (∀ w ∈ lw_all, w.before args s = true) ∧ s.vm.findClass y.cls = some m.cls ∧ meth.locks = false ∧ meth.name = y.name ∧ zz_W g s
/-- the value of a local -/
def lk : List (Nat × Value) → Nat → Option Value
  | [], _ => none
  | q :: r, i => bif Nat.beq q.1 i then some q.2 else lk r i
theorem lk_mem {l : List (Nat × Value)} {i : Nat} {v : Value} (h : lk l i = some v) : (i, v) ∈ l := by
  induction l with
  | nil => cases h
  | cons q r ih =>
    unfold lk at h
    cases hb : Nat.beq q.1 i with
    | true =>
      rw [hb] at h
      have e : q.1 = i := Nat.eq_of_beq_eq_true hb
      obtain ⟨a, b⟩ := q
      cases h
      cases e
      exact List.mem_cons_self
    | false =>
      rw [hb] at h
      exact List.mem_cons_of_mem _ (ih h)
def st1 (l : List (Nat × Value)) (i : Nat) (v : Value) : List (Nat × Value) := (i, v) :: l.filter (fun q => !(q.1 == i) && !(q.1 + 1 == i && q.2.category == 2))
def st2 (l : List (Nat × Value)) (i : Nat) (v : Value) : List (Nat × Value) := (i, v) :: l.filter (fun q => !(q.1 == i) && (!(q.1 == i + 1) && !(q.1 + 1 == i && q.2.category == 2)))
/-- the listed locals are among the known ones -/
def zl (l : List (Nat × Value)) : List (Nat × Value) → Prop
  | [] => True
  | q :: r => lk l q.1 = some q.2 ∧ zl l r
theorem zl.has {ls : Array Slot} {n : Nat} {l l' : List (Nat × Value)} (h : lv_has ls n l) (hz : zl l l') : lv_has ls n l' := by
  refine ⟨h.1, h.2.1, ?_⟩
  induction l' with
  | nil => intro q hq; cases hq
  | cons x r ih =>
    intro q hq
    rcases List.mem_cons.mp hq with e | e
    · rw [e]
      exact h.2.2 x (lk_mem (i := x.1) (v := x.2) hz.1)
    · exact ih hz.2 q e
section ZJ
variable {p : Program} {l : Launch} {e : Env} {R : Room} {s : State} {m : MethodId} {args : Array Value} {below : List Frame} {meth : Method} {c : Code} {g : zz_G} {y : MethodName} {cc : ByteArray} {nL : Nat} {ret : Option FieldType} {Q : State → Prop} {h : zz_H} {mc ms pc : Nat} {lo : List (Nat × Value)} {rest : List Value}
/-- the machine, in the method at pc with the locals lo, the stack st, a heap that holds h, so many cells and slots made, comes to a state with Q -/
def zz_J (p : Program) (l : Launch) (e : Env) (R : Room) (s : State) (m : MethodId) (args : Array Value) (below : List Frame) (meth : Method) (c : Code) (g : zz_G) (nL : Nat) (Q : State → Prop) (h : zz_H) (mc ms pc : Nat) (lo : List (Nat × Value)) (st : List Value) : Prop :=
  ∀ (H : Heap) (locs : List Loc) (ls : Array Slot), zz_R g H h → va_S (gF g) s.heap H locs → lv_has ls nL lo → W p l e R s m args below meth c H locs mc ms Q (F0 m pc ls st)

theorem zj_iconst (X : zz_X l g y cc nL ret p s m args meth c) {n : Int} {v : Int32} (hdg : decode cc pc = .ok (.iconst n, 1)) (hv : Int32.ofInt n = v) (k : zz_J p l e R s m args below meth c g nL Q h mc ms (pc + 1) lo (.int v :: rest)) : zz_J p l e R s m args below meth c g nL Q h mc ms pc lo (rest) := fun H locs ls hR hS hl => lv_iconst X.1 X.2.1 hdg hv (k H locs ls hR hS hl)
theorem zj_bipush (X : zz_X l g y cc nL ret p s m args meth c) {n : Int} {v : Int32} (hdg : decode cc pc = .ok (.bipush n, 2)) (hv : (Int8.ofInt n).toInt32 = v) (k : zz_J p l e R s m args below meth c g nL Q h mc ms (pc + 2) lo (.int v :: rest)) : zz_J p l e R s m args below meth c g nL Q h mc ms pc lo (rest) := fun H locs ls hR hS hl => lv_bipush X.1 X.2.1 hdg hv (k H locs ls hR hS hl)
theorem zj_sipush (X : zz_X l g y cc nL ret p s m args meth c) {n : Int} {v : Int32} (hdg : decode cc pc = .ok (.sipush n, 3)) (hv : (Int16.ofInt n).toInt32 = v) (k : zz_J p l e R s m args below meth c g nL Q h mc ms (pc + 3) lo (.int v :: rest)) : zz_J p l e R s m args below meth c g nL Q h mc ms pc lo (rest) := fun H locs ls hR hS hl => lv_sipush X.1 X.2.1 hdg hv (k H locs ls hR hS hl)
theorem zj_iload_n (X : zz_X l g y cc nL ret p s m args meth c) {k0 : Fin 4} {x : Int32} (hdg : decode cc pc = .ok (.iload_n k0, 1)) (hv : lk lo (k0 : Nat) = some (.int x)) (k : zz_J p l e R s m args below meth c g nL Q h mc ms (pc + 1) lo (.int x :: rest)) : zz_J p l e R s m args below meth c g nL Q h mc ms pc lo (rest) := fun H locs ls hR hS hl => lv_iload_n X.1 X.2.1 hdg rfl (hl.2.2 _ (lk_mem hv)) (k H locs ls hR hS hl)
theorem zj_iload (X : zz_X l g y cc nL ret p s m args meth c) {i : Nat} {x : Int32} (hdg : decode cc pc = .ok (.iload i, 2)) (hv : lk lo i = some (.int x)) (k : zz_J p l e R s m args below meth c g nL Q h mc ms (pc + 2) lo (.int x :: rest)) : zz_J p l e R s m args below meth c g nL Q h mc ms pc lo (rest) := fun H locs ls hR hS hl => lv_iload X.1 X.2.1 hdg (hl.2.2 _ (lk_mem hv)) (k H locs ls hR hS hl)
theorem zj_aload_n (X : zz_X l g y cc nL ret p s m args meth c) {k0 : Fin 4} {x : Nat} (hdg : decode cc pc = .ok (.aload_n k0, 1)) (hv : lk lo (k0 : Nat) = some (.ref x)) (k : zz_J p l e R s m args below meth c g nL Q h mc ms (pc + 1) lo (.ref x :: rest)) : zz_J p l e R s m args below meth c g nL Q h mc ms pc lo (rest) := fun H locs ls hR hS hl => lv_aload_n X.1 X.2.1 hdg rfl (hl.2.2 _ (lk_mem hv)) (k H locs ls hR hS hl)
theorem zj_aload (X : zz_X l g y cc nL ret p s m args meth c) {i : Nat} {x : Nat} (hdg : decode cc pc = .ok (.aload i, 2)) (hv : lk lo i = some (.ref x)) (k : zz_J p l e R s m args below meth c g nL Q h mc ms (pc + 2) lo (.ref x :: rest)) : zz_J p l e R s m args below meth c g nL Q h mc ms pc lo (rest) := fun H locs ls hR hS hl => lv_aload X.1 X.2.1 hdg (hl.2.2 _ (lk_mem hv)) (k H locs ls hR hS hl)
theorem zj_dload_n (X : zz_X l g y cc nL ret p s m args meth c) {k0 : Fin 4} {x : UInt64} (hdg : decode cc pc = .ok (.dload_n k0, 1)) (hv : lk lo (k0 : Nat) = some (.double x)) (k : zz_J p l e R s m args below meth c g nL Q h mc ms (pc + 1) lo (.double x :: rest)) : zz_J p l e R s m args below meth c g nL Q h mc ms pc lo (rest) := fun H locs ls hR hS hl => lv_dload_n X.1 X.2.1 hdg rfl (hl.2.2 _ (lk_mem hv)) (k H locs ls hR hS hl)
theorem zj_dload (X : zz_X l g y cc nL ret p s m args meth c) {i : Nat} {x : UInt64} (hdg : decode cc pc = .ok (.dload i, 2)) (hv : lk lo i = some (.double x)) (k : zz_J p l e R s m args below meth c g nL Q h mc ms (pc + 2) lo (.double x :: rest)) : zz_J p l e R s m args below meth c g nL Q h mc ms pc lo (rest) := fun H locs ls hR hS hl => lv_dload X.1 X.2.1 hdg (hl.2.2 _ (lk_mem hv)) (k H locs ls hR hS hl)
theorem zj_aload_nN (X : zz_X l g y cc nL ret p s m args meth c) {k0 : Fin 4} (hdg : decode cc pc = .ok (.aload_n k0, 1)) (hv : lk lo (k0 : Nat) = some .null) (k : zz_J p l e R s m args below meth c g nL Q h mc ms (pc + 1) lo (.null :: rest)) : zz_J p l e R s m args below meth c g nL Q h mc ms pc lo (rest) := fun H locs ls hR hS hl => lv_aload_nN X.1 X.2.1 hdg rfl (hl.2.2 _ (lk_mem hv)) (k H locs ls hR hS hl)
theorem zj_aloadN (X : zz_X l g y cc nL ret p s m args meth c) {i : Nat} (hdg : decode cc pc = .ok (.aload i, 2)) (hv : lk lo i = some .null) (k : zz_J p l e R s m args below meth c g nL Q h mc ms (pc + 2) lo (.null :: rest)) : zz_J p l e R s m args below meth c g nL Q h mc ms pc lo (rest) := fun H locs ls hR hS hl => lv_aloadN X.1 X.2.1 hdg (hl.2.2 _ (lk_mem hv)) (k H locs ls hR hS hl)
theorem zj_aload_nq (X : zz_X l g y cc nL ret p s m args meth c) {k0 : Fin 4} {r : Option Nat} (hdg : decode cc pc = .ok (.aload_n k0, 1)) (hv : lk lo (k0 : Nat) = some (va_rf r)) (k : zz_J p l e R s m args below meth c g nL Q h mc ms (pc + 1) lo (va_rf r :: rest)) : zz_J p l e R s m args below meth c g nL Q h mc ms pc lo rest := by
  cases r with
  | none => exact zj_aload_nN X hdg hv k
  | some a => exact zj_aload_n X hdg hv k
theorem zj_aloadq (X : zz_X l g y cc nL ret p s m args meth c) {i : Nat} {r : Option Nat} (hdg : decode cc pc = .ok (.aload i, 2)) (hv : lk lo i = some (va_rf r)) (k : zz_J p l e R s m args below meth c g nL Q h mc ms (pc + 2) lo (va_rf r :: rest)) : zz_J p l e R s m args below meth c g nL Q h mc ms pc lo rest := by
  cases r with
  | none => exact zj_aloadN X hdg hv k
  | some a => exact zj_aload X hdg hv k
theorem zj_istore_n (X : zz_X l g y cc nL ret p s m args meth c) {k0 : Fin 4} {x : Int32} (hdg : decode cc pc = .ok (.istore_n k0, 1)) (hn : (k0 : Nat) < nL) (k : zz_J p l e R s m args below meth c g nL Q h mc ms (pc + 1) (st1 lo (k0 : Nat) (.int x)) rest) : zz_J p l e R s m args below meth c g nL Q h mc ms pc lo (.int x :: rest) := fun H locs ls hR hS hl => lv_istore_n X.1 X.2.1 hdg rfl hl hn rfl (fun ls' hl' => k H locs ls' hR hS hl')
theorem zj_istore (X : zz_X l g y cc nL ret p s m args meth c) {i : Nat} {x : Int32} (hdg : decode cc pc = .ok (.istore i, 2)) (hn : i < nL) (k : zz_J p l e R s m args below meth c g nL Q h mc ms (pc + 2) (st1 lo i (.int x)) rest) : zz_J p l e R s m args below meth c g nL Q h mc ms pc lo (.int x :: rest) := fun H locs ls hR hS hl => lv_istore X.1 X.2.1 hdg hl hn rfl (fun ls' hl' => k H locs ls' hR hS hl')
theorem zj_astore_n (X : zz_X l g y cc nL ret p s m args meth c) {k0 : Fin 4} {x : Nat} (hdg : decode cc pc = .ok (.astore_n k0, 1)) (hn : (k0 : Nat) < nL) (k : zz_J p l e R s m args below meth c g nL Q h mc ms (pc + 1) (st1 lo (k0 : Nat) (.ref x)) rest) : zz_J p l e R s m args below meth c g nL Q h mc ms pc lo (.ref x :: rest) := fun H locs ls hR hS hl => lv_astore_n X.1 X.2.1 hdg rfl hl hn rfl (fun ls' hl' => k H locs ls' hR hS hl')
theorem zj_astore_nN (X : zz_X l g y cc nL ret p s m args meth c) {k0 : Fin 4} (hdg : decode cc pc = .ok (.astore_n k0, 1)) (hn : (k0 : Nat) < nL) (k : zz_J p l e R s m args below meth c g nL Q h mc ms (pc + 1) (st1 lo (k0 : Nat) .null) rest) : zz_J p l e R s m args below meth c g nL Q h mc ms pc lo (.null :: rest) := fun H locs ls hR hS hl => lv_astore_nN X.1 X.2.1 hdg rfl hl hn rfl (fun ls' hl' => k H locs ls' hR hS hl')
theorem zj_astore_nq (X : zz_X l g y cc nL ret p s m args meth c) {k0 : Fin 4} {r : Option Nat} (hdg : decode cc pc = .ok (.astore_n k0, 1)) (hn : (k0 : Nat) < nL) (k : zz_J p l e R s m args below meth c g nL Q h mc ms (pc + 1) (st1 lo (k0 : Nat) (va_rf r)) rest) : zz_J p l e R s m args below meth c g nL Q h mc ms pc lo (va_rf r :: rest) := by
  cases r with
  | none => exact zj_astore_nN X hdg hn k
  | some a => exact zj_astore_n X hdg hn k
theorem zj_astore (X : zz_X l g y cc nL ret p s m args meth c) {i : Nat} {x : Nat} (hdg : decode cc pc = .ok (.astore i, 2)) (hn : i < nL) (k : zz_J p l e R s m args below meth c g nL Q h mc ms (pc + 2) (st1 lo i (.ref x)) rest) : zz_J p l e R s m args below meth c g nL Q h mc ms pc lo (.ref x :: rest) := fun H locs ls hR hS hl => lv_astore X.1 X.2.1 hdg hl hn rfl (fun ls' hl' => k H locs ls' hR hS hl')
theorem zj_astoreN (X : zz_X l g y cc nL ret p s m args meth c) {i : Nat} (hdg : decode cc pc = .ok (.astore i, 2)) (hn : i < nL) (k : zz_J p l e R s m args below meth c g nL Q h mc ms (pc + 2) (st1 lo i .null) rest) : zz_J p l e R s m args below meth c g nL Q h mc ms pc lo (.null :: rest) := fun H locs ls hR hS hl => lv_astoreN X.1 X.2.1 hdg hl hn rfl (fun ls' hl' => k H locs ls' hR hS hl')
theorem zj_astoreq (X : zz_X l g y cc nL ret p s m args meth c) {i : Nat} {r : Option Nat} (hdg : decode cc pc = .ok (.astore i, 2)) (hn : i < nL) (k : zz_J p l e R s m args below meth c g nL Q h mc ms (pc + 2) (st1 lo i (va_rf r)) rest) : zz_J p l e R s m args below meth c g nL Q h mc ms pc lo (va_rf r :: rest) := by
  cases r with
  | none => exact zj_astoreN X hdg hn k
  | some a => exact zj_astore X hdg hn k
theorem zj_dstore (X : zz_X l g y cc nL ret p s m args meth c) {i : Nat} {x : UInt64} (hdg : decode cc pc = .ok (.dstore i, 2)) (hn : i + 1 < nL) (k : zz_J p l e R s m args below meth c g nL Q h mc ms (pc + 2) (st2 lo i (.double x)) rest) : zz_J p l e R s m args below meth c g nL Q h mc ms pc lo (.double x :: rest) := fun H locs ls hR hS hl => lv_dstore X.1 X.2.1 hdg hl hn rfl (fun ls' hl' => k H locs ls' hR hS hl')
theorem zj_iinc (X : zz_X l g y cc nL ret p s m args meth c) {i : Nat} {n : Int} {x v : Int32} (hdg : decode cc pc = .ok (.iinc i n, 3)) (hx : lk lo i = some (.int x)) (hv : x + Int32.ofInt n = v) (hn : i < nL) (k : zz_J p l e R s m args below meth c g nL Q h mc ms (pc + 3) (st1 lo i (.int v)) rest) : zz_J p l e R s m args below meth c g nL Q h mc ms pc lo rest := fun H locs ls hR hS hl => by
  obtain ⟨j, hj⟩ := List.getElem?_of_mem (lk_mem hx)
  exact lv_iinc X.1 X.2.1 hdg hl hj hv hn rfl (fun ls' hl' => k H locs ls' hR hS hl')
theorem zj_iadd (X : zz_X l g y cc nL ret p s m args meth c) {x y : Int32} (hdg : decode cc pc = .ok (.iadd, 1)) (k : zz_J p l e R s m args below meth c g nL Q h mc ms (pc + 1) lo (.int (x + y) :: rest)) : zz_J p l e R s m args below meth c g nL Q h mc ms pc lo (.int y :: .int x :: rest) := fun H locs ls hR hS hl => lv_iadd X.1 X.2.1 hdg (k H locs ls hR hS hl)
theorem zj_isub (X : zz_X l g y cc nL ret p s m args meth c) {x y : Int32} (hdg : decode cc pc = .ok (.isub, 1)) (k : zz_J p l e R s m args below meth c g nL Q h mc ms (pc + 1) lo (.int (x - y) :: rest)) : zz_J p l e R s m args below meth c g nL Q h mc ms pc lo (.int y :: .int x :: rest) := fun H locs ls hR hS hl => lv_isub X.1 X.2.1 hdg (k H locs ls hR hS hl)
theorem zj_imul (X : zz_X l g y cc nL ret p s m args meth c) {x y : Int32} (hdg : decode cc pc = .ok (.imul, 1)) (k : zz_J p l e R s m args below meth c g nL Q h mc ms (pc + 1) lo (.int (x * y) :: rest)) : zz_J p l e R s m args below meth c g nL Q h mc ms pc lo (.int y :: .int x :: rest) := fun H locs ls hR hS hl => lv_imul X.1 X.2.1 hdg (k H locs ls hR hS hl)
theorem zj_iand (X : zz_X l g y cc nL ret p s m args meth c) {x y : Int32} (hdg : decode cc pc = .ok (.iand, 1)) (k : zz_J p l e R s m args below meth c g nL Q h mc ms (pc + 1) lo (.int (x &&& y) :: rest)) : zz_J p l e R s m args below meth c g nL Q h mc ms pc lo (.int y :: .int x :: rest) := fun H locs ls hR hS hl => lv_iand X.1 X.2.1 hdg (k H locs ls hR hS hl)
theorem zj_ior (X : zz_X l g y cc nL ret p s m args meth c) {x y : Int32} (hdg : decode cc pc = .ok (.ior, 1)) (k : zz_J p l e R s m args below meth c g nL Q h mc ms (pc + 1) lo (.int (x ||| y) :: rest)) : zz_J p l e R s m args below meth c g nL Q h mc ms pc lo (.int y :: .int x :: rest) := fun H locs ls hR hS hl => lv_ior X.1 X.2.1 hdg (k H locs ls hR hS hl)
theorem zj_ixor (X : zz_X l g y cc nL ret p s m args meth c) {x y : Int32} (hdg : decode cc pc = .ok (.ixor, 1)) (k : zz_J p l e R s m args below meth c g nL Q h mc ms (pc + 1) lo (.int (x ^^^ y) :: rest)) : zz_J p l e R s m args below meth c g nL Q h mc ms pc lo (.int y :: .int x :: rest) := fun H locs ls hR hS hl => lv_ixor X.1 X.2.1 hdg (k H locs ls hR hS hl)
theorem zj_ishl (X : zz_X l g y cc nL ret p s m args meth c) {x y : Int32} (hdg : decode cc pc = .ok (.ishl, 1)) (k : zz_J p l e R s m args below meth c g nL Q h mc ms (pc + 1) lo (.int (x <<< (y &&& 31)) :: rest)) : zz_J p l e R s m args below meth c g nL Q h mc ms pc lo (.int y :: .int x :: rest) := fun H locs ls hR hS hl => lv_ishl X.1 X.2.1 hdg (k H locs ls hR hS hl)
theorem zj_ishr (X : zz_X l g y cc nL ret p s m args meth c) {x y : Int32} (hdg : decode cc pc = .ok (.ishr, 1)) (k : zz_J p l e R s m args below meth c g nL Q h mc ms (pc + 1) lo (.int (x >>> (y &&& 31)) :: rest)) : zz_J p l e R s m args below meth c g nL Q h mc ms pc lo (.int y :: .int x :: rest) := fun H locs ls hR hS hl => lv_ishr X.1 X.2.1 hdg (k H locs ls hR hS hl)
theorem zj_idiv (X : zz_X l g y cc nL ret p s m args meth c) {x y : Int32} (hdg : decode cc pc = .ok (.idiv, 1)) (hne : ¬ y = 0) (k : zz_J p l e R s m args below meth c g nL Q h mc ms (pc + 1) lo (.int (x / y) :: rest)) : zz_J p l e R s m args below meth c g nL Q h mc ms pc lo (.int y :: .int x :: rest) := fun H locs ls hR hS hl => lv_idiv X.1 X.2.1 hdg hne (k H locs ls hR hS hl)
theorem zj_irem (X : zz_X l g y cc nL ret p s m args meth c) {x y : Int32} (hdg : decode cc pc = .ok (.irem, 1)) (hne : ¬ y = 0) (k : zz_J p l e R s m args below meth c g nL Q h mc ms (pc + 1) lo (.int (x - x / y * y) :: rest)) : zz_J p l e R s m args below meth c g nL Q h mc ms pc lo (.int y :: .int x :: rest) := fun H locs ls hR hS hl => lv_irem X.1 X.2.1 hdg hne (k H locs ls hR hS hl)
theorem zj_ineg (X : zz_X l g y cc nL ret p s m args meth c) {x : Int32} (hdg : decode cc pc = .ok (.ineg, 1)) (k : zz_J p l e R s m args below meth c g nL Q h mc ms (pc + 1) lo (.int (-x) :: rest)) : zz_J p l e R s m args below meth c g nL Q h mc ms pc lo (.int x :: rest) := fun H locs ls hR hS hl => lv_ineg X.1 X.2.1 hdg (k H locs ls hR hS hl)
theorem zj_iushr (X : zz_X l g y cc nL ret p s m args meth c) {x y v : Int32} (hdg : decode cc pc = .ok (.iushr, 1)) (hv : (x.toUInt32 >>> (y.toUInt32 &&& Int32.toUInt32 31)).toInt32 = v) (k : zz_J p l e R s m args below meth c g nL Q h mc ms (pc + 1) lo (.int v :: rest)) : zz_J p l e R s m args below meth c g nL Q h mc ms pc lo (.int y :: .int x :: rest) := fun H locs ls hR hS hl => lv_iushr X.1 X.2.1 hdg hv (k H locs ls hR hS hl)
theorem zj_i2l (X : zz_X l g y cc nL ret p s m args meth c) {x : Int32} (hdg : decode cc pc = .ok (.i2l, 1)) (k : zz_J p l e R s m args below meth c g nL Q h mc ms (pc + 1) lo (.long x.toInt64 :: rest)) : zz_J p l e R s m args below meth c g nL Q h mc ms pc lo (.int x :: rest) := fun H locs ls hR hS hl => lv_i2l X.1 X.2.1 hdg rfl (k H locs ls hR hS hl)
theorem zj_dup (X : zz_X l g y cc nL ret p s m args meth c) {va : Value} (hdg : decode cc pc = .ok (.dup, 1)) (hva : va.category = 1) (k : zz_J p l e R s m args below meth c g nL Q h mc ms (pc + 1) lo (va :: va :: rest)) : zz_J p l e R s m args below meth c g nL Q h mc ms pc lo (va :: rest) := fun H locs ls hR hS hl => lv_dup X.1 X.2.1 hdg hva (k H locs ls hR hS hl)
theorem zj_pop (X : zz_X l g y cc nL ret p s m args meth c) {va : Value} (hdg : decode cc pc = .ok (.pop, 1)) (hva : va.category = 1) (k : zz_J p l e R s m args below meth c g nL Q h mc ms (pc + 1) lo (rest)) : zz_J p l e R s m args below meth c g nL Q h mc ms pc lo (va :: rest) := fun H locs ls hR hS hl => lv_pop X.1 X.2.1 hdg hva (k H locs ls hR hS hl)
theorem zj_dup_x1 (X : zz_X l g y cc nL ret p s m args meth c) {va vb : Value} (hdg : decode cc pc = .ok (.dup_x1, 1)) (hva : va.category = 1) (hvb : vb.category = 1) (k : zz_J p l e R s m args below meth c g nL Q h mc ms (pc + 1) lo (va :: vb :: va :: rest)) : zz_J p l e R s m args below meth c g nL Q h mc ms pc lo (va :: vb :: rest) := fun H locs ls hR hS hl => lv_dup_x1 X.1 X.2.1 hdg hva hvb (k H locs ls hR hS hl)
theorem zj_dup2 (X : zz_X l g y cc nL ret p s m args meth c) {va vb : Value} (hdg : decode cc pc = .ok (.dup2, 1)) (hva : va.category = 1) (hvb : vb.category = 1) (k : zz_J p l e R s m args below meth c g nL Q h mc ms (pc + 1) lo (va :: vb :: va :: vb :: rest)) : zz_J p l e R s m args below meth c g nL Q h mc ms pc lo (va :: vb :: rest) := fun H locs ls hR hS hl => lv_dup2_11 X.1 X.2.1 hdg hva hvb (k H locs ls hR hS hl)
theorem zj_null (X : zz_X l g y cc nL ret p s m args meth c) (hdg : decode cc pc = .ok (.aconst_null, 1)) (k : zz_J p l e R s m args below meth c g nL Q h mc ms (pc + 1) lo (.null :: rest)) : zz_J p l e R s m args below meth c g nL Q h mc ms pc lo (rest) := fun H locs ls hR hS hl => lv_null X.1 X.2.1 hdg (k H locs ls hR hS hl)
theorem zj_i2d (X : zz_X l g y cc nL ret p s m args meth c) {x : Int32} (hdg : decode cc pc = .ok (.i2d, 1)) (k : zz_J p l e R s m args below meth c g nL Q h mc ms (pc + 1) lo (.double (FP.i2d x) :: rest)) : zz_J p l e R s m args below meth c g nL Q h mc ms pc lo (.int x :: rest) := fun H locs ls hR hS hl => lv_i2d X.1 X.2.1 hdg (k H locs ls hR hS hl)
theorem zj_i2f (X : zz_X l g y cc nL ret p s m args meth c) {x : Int32} (hdg : decode cc pc = .ok (.i2f, 1)) (k : zz_J p l e R s m args below meth c g nL Q h mc ms (pc + 1) lo (.float (FP.i2f x) :: rest)) : zz_J p l e R s m args below meth c g nL Q h mc ms pc lo (.int x :: rest) := fun H locs ls hR hS hl => lv_i2f X.1 X.2.1 hdg (k H locs ls hR hS hl)
theorem zj_dconst0 (X : zz_X l g y cc nL ret p s m args meth c) (hdg : decode cc pc = .ok (.dconst 0, 1)) (k : zz_J p l e R s m args below meth c g nL Q h mc ms (pc + 1) lo (.double FP.dconst0 :: rest)) : zz_J p l e R s m args below meth c g nL Q h mc ms pc lo (rest) := fun H locs ls hR hS hl => lv_dconst0 X.1 X.2.1 hdg (k H locs ls hR hS hl)
theorem zj_fconst0 (X : zz_X l g y cc nL ret p s m args meth c) (hdg : decode cc pc = .ok (.fconst 0, 1)) (k : zz_J p l e R s m args below meth c g nL Q h mc ms (pc + 1) lo (.float FP.fconst0 :: rest)) : zz_J p l e R s m args below meth c g nL Q h mc ms pc lo (rest) := fun H locs ls hR hS hl => lv_fconst0 X.1 X.2.1 hdg (k H locs ls hR hS hl)
theorem zj_ddiv (X : zz_X l g y cc nL ret p s m args meth c) {x y : UInt64} (hdg : decode cc pc = .ok (.ddiv, 1)) (hne : vf_n64 (FP.ddiv x y)) (k : zz_J p l e R s m args below meth c g nL Q h mc ms (pc + 1) lo (.double (FP.ddiv x y) :: rest)) : zz_J p l e R s m args below meth c g nL Q h mc ms pc lo (.double y :: .double x :: rest) := fun H locs ls hR hS hl => lv_ddiv X.1 X.2.1 hdg hne (k H locs ls hR hS hl)
theorem zj_fdiv (X : zz_X l g y cc nL ret p s m args meth c) {x y : UInt32} (hdg : decode cc pc = .ok (.fdiv, 1)) (hne : vf_n32 (FP.fdiv x y)) (k : zz_J p l e R s m args below meth c g nL Q h mc ms (pc + 1) lo (.float (FP.fdiv x y) :: rest)) : zz_J p l e R s m args below meth c g nL Q h mc ms pc lo (.float y :: .float x :: rest) := fun H locs ls hR hS hl => lv_fdiv X.1 X.2.1 hdg hne (k H locs ls hR hS hl)
theorem zj_f2d (X : zz_X l g y cc nL ret p s m args meth c) {x : UInt32} (hdg : decode cc pc = .ok (.f2d, 1)) (hne : vf_n64 (FP.f2d x)) (k : zz_J p l e R s m args below meth c g nL Q h mc ms (pc + 1) lo (.double (FP.f2d x) :: rest)) : zz_J p l e R s m args below meth c g nL Q h mc ms pc lo (.float x :: rest) := fun H locs ls hR hS hl => lv_f2d X.1 X.2.1 hdg hne (k H locs ls hR hS hl)
theorem zj_dcmp (X : zz_X l g y cc nL ret p s m args meth c) {x y : UInt64} {op : CmpOp} (hdg : decode cc pc = .ok (.dcmp op, 1)) (k : zz_J p l e R s m args below meth c g nL Q h mc ms (pc + 1) lo (.int (Op.cmpValue (FP.dcmp x y) op) :: rest)) : zz_J p l e R s m args below meth c g nL Q h mc ms pc lo (.double y :: .double x :: rest) := fun H locs ls hR hS hl => lv_dcmp X.1 X.2.1 hdg (k H locs ls hR hS hl)
theorem zj_if_eq (X : zz_X l g y cc nL ret p s m args meth c) {x : Int32} {off : Int} {tgt : Nat} (hdg : decode cc pc = .ok (.ifCond .eq off, 3)) (ht : (pc : Int) + off = (tgt : Int)) (kt : x = 0 → zz_J p l e R s m args below meth c g nL Q h mc ms tgt lo rest) (kf : ¬ x = 0 → zz_J p l e R s m args below meth c g nL Q h mc ms (pc + 3) lo rest) : zz_J p l e R s m args below meth c g nL Q h mc ms pc lo (.int x :: rest) := fun H locs ls hR hS hl => lv_if_eq X.1 X.2.1 hdg ht (fun q => kt q H locs ls hR hS hl) (fun q => kf q H locs ls hR hS hl)
theorem zj_if_ne (X : zz_X l g y cc nL ret p s m args meth c) {x : Int32} {off : Int} {tgt : Nat} (hdg : decode cc pc = .ok (.ifCond .ne off, 3)) (ht : (pc : Int) + off = (tgt : Int)) (kt : ¬ x = 0 → zz_J p l e R s m args below meth c g nL Q h mc ms tgt lo rest) (kf : x = 0 → zz_J p l e R s m args below meth c g nL Q h mc ms (pc + 3) lo rest) : zz_J p l e R s m args below meth c g nL Q h mc ms pc lo (.int x :: rest) := fun H locs ls hR hS hl => lv_if_ne X.1 X.2.1 hdg ht (fun q => kt q H locs ls hR hS hl) (fun q => kf q H locs ls hR hS hl)
theorem zj_if_lt (X : zz_X l g y cc nL ret p s m args meth c) {x : Int32} {off : Int} {tgt : Nat} (hdg : decode cc pc = .ok (.ifCond .lt off, 3)) (ht : (pc : Int) + off = (tgt : Int)) (kt : x < 0 → zz_J p l e R s m args below meth c g nL Q h mc ms tgt lo rest) (kf : ¬ x < 0 → zz_J p l e R s m args below meth c g nL Q h mc ms (pc + 3) lo rest) : zz_J p l e R s m args below meth c g nL Q h mc ms pc lo (.int x :: rest) := fun H locs ls hR hS hl => lv_if_lt X.1 X.2.1 hdg ht (fun q => kt q H locs ls hR hS hl) (fun q => kf q H locs ls hR hS hl)
theorem zj_if_ge (X : zz_X l g y cc nL ret p s m args meth c) {x : Int32} {off : Int} {tgt : Nat} (hdg : decode cc pc = .ok (.ifCond .ge off, 3)) (ht : (pc : Int) + off = (tgt : Int)) (kt : 0 ≤ x → zz_J p l e R s m args below meth c g nL Q h mc ms tgt lo rest) (kf : ¬ 0 ≤ x → zz_J p l e R s m args below meth c g nL Q h mc ms (pc + 3) lo rest) : zz_J p l e R s m args below meth c g nL Q h mc ms pc lo (.int x :: rest) := fun H locs ls hR hS hl => lv_if_ge X.1 X.2.1 hdg ht (fun q => kt q H locs ls hR hS hl) (fun q => kf q H locs ls hR hS hl)
theorem zj_if_gt (X : zz_X l g y cc nL ret p s m args meth c) {x : Int32} {off : Int} {tgt : Nat} (hdg : decode cc pc = .ok (.ifCond .gt off, 3)) (ht : (pc : Int) + off = (tgt : Int)) (kt : 0 < x → zz_J p l e R s m args below meth c g nL Q h mc ms tgt lo rest) (kf : ¬ 0 < x → zz_J p l e R s m args below meth c g nL Q h mc ms (pc + 3) lo rest) : zz_J p l e R s m args below meth c g nL Q h mc ms pc lo (.int x :: rest) := fun H locs ls hR hS hl => lv_if_gt X.1 X.2.1 hdg ht (fun q => kt q H locs ls hR hS hl) (fun q => kf q H locs ls hR hS hl)
theorem zj_if_le (X : zz_X l g y cc nL ret p s m args meth c) {x : Int32} {off : Int} {tgt : Nat} (hdg : decode cc pc = .ok (.ifCond .le off, 3)) (ht : (pc : Int) + off = (tgt : Int)) (kt : x ≤ 0 → zz_J p l e R s m args below meth c g nL Q h mc ms tgt lo rest) (kf : ¬ x ≤ 0 → zz_J p l e R s m args below meth c g nL Q h mc ms (pc + 3) lo rest) : zz_J p l e R s m args below meth c g nL Q h mc ms pc lo (.int x :: rest) := fun H locs ls hR hS hl => lv_if_le X.1 X.2.1 hdg ht (fun q => kt q H locs ls hR hS hl) (fun q => kf q H locs ls hR hS hl)
theorem zj_icmp_eq (X : zz_X l g y cc nL ret p s m args meth c) {x z : Int32} {off : Int} {tgt : Nat} (hdg : decode cc pc = .ok (.if_icmp .eq off, 3)) (ht : (pc : Int) + off = (tgt : Int)) (kt : x = z → zz_J p l e R s m args below meth c g nL Q h mc ms tgt lo rest) (kf : ¬ x = z → zz_J p l e R s m args below meth c g nL Q h mc ms (pc + 3) lo rest) : zz_J p l e R s m args below meth c g nL Q h mc ms pc lo (.int z :: .int x :: rest) := fun H locs ls hR hS hl => lv_icmp_eq X.1 X.2.1 hdg ht (fun q => kt q H locs ls hR hS hl) (fun q => kf q H locs ls hR hS hl)
theorem zj_icmp_ne (X : zz_X l g y cc nL ret p s m args meth c) {x z : Int32} {off : Int} {tgt : Nat} (hdg : decode cc pc = .ok (.if_icmp .ne off, 3)) (ht : (pc : Int) + off = (tgt : Int)) (kt : ¬ x = z → zz_J p l e R s m args below meth c g nL Q h mc ms tgt lo rest) (kf : x = z → zz_J p l e R s m args below meth c g nL Q h mc ms (pc + 3) lo rest) : zz_J p l e R s m args below meth c g nL Q h mc ms pc lo (.int z :: .int x :: rest) := fun H locs ls hR hS hl => lv_icmp_ne X.1 X.2.1 hdg ht (fun q => kt q H locs ls hR hS hl) (fun q => kf q H locs ls hR hS hl)
theorem zj_icmp_lt (X : zz_X l g y cc nL ret p s m args meth c) {x z : Int32} {off : Int} {tgt : Nat} (hdg : decode cc pc = .ok (.if_icmp .lt off, 3)) (ht : (pc : Int) + off = (tgt : Int)) (kt : x < z → zz_J p l e R s m args below meth c g nL Q h mc ms tgt lo rest) (kf : ¬ x < z → zz_J p l e R s m args below meth c g nL Q h mc ms (pc + 3) lo rest) : zz_J p l e R s m args below meth c g nL Q h mc ms pc lo (.int z :: .int x :: rest) := fun H locs ls hR hS hl => lv_icmp_lt X.1 X.2.1 hdg ht (fun q => kt q H locs ls hR hS hl) (fun q => kf q H locs ls hR hS hl)
theorem zj_icmp_ge (X : zz_X l g y cc nL ret p s m args meth c) {x z : Int32} {off : Int} {tgt : Nat} (hdg : decode cc pc = .ok (.if_icmp .ge off, 3)) (ht : (pc : Int) + off = (tgt : Int)) (kt : z ≤ x → zz_J p l e R s m args below meth c g nL Q h mc ms tgt lo rest) (kf : ¬ z ≤ x → zz_J p l e R s m args below meth c g nL Q h mc ms (pc + 3) lo rest) : zz_J p l e R s m args below meth c g nL Q h mc ms pc lo (.int z :: .int x :: rest) := fun H locs ls hR hS hl => lv_icmp_ge X.1 X.2.1 hdg ht (fun q => kt q H locs ls hR hS hl) (fun q => kf q H locs ls hR hS hl)
theorem zj_icmp_gt (X : zz_X l g y cc nL ret p s m args meth c) {x z : Int32} {off : Int} {tgt : Nat} (hdg : decode cc pc = .ok (.if_icmp .gt off, 3)) (ht : (pc : Int) + off = (tgt : Int)) (kt : z < x → zz_J p l e R s m args below meth c g nL Q h mc ms tgt lo rest) (kf : ¬ z < x → zz_J p l e R s m args below meth c g nL Q h mc ms (pc + 3) lo rest) : zz_J p l e R s m args below meth c g nL Q h mc ms pc lo (.int z :: .int x :: rest) := fun H locs ls hR hS hl => lv_icmp_gt X.1 X.2.1 hdg ht (fun q => kt q H locs ls hR hS hl) (fun q => kf q H locs ls hR hS hl)
theorem zj_icmp_le (X : zz_X l g y cc nL ret p s m args meth c) {x z : Int32} {off : Int} {tgt : Nat} (hdg : decode cc pc = .ok (.if_icmp .le off, 3)) (ht : (pc : Int) + off = (tgt : Int)) (kt : x ≤ z → zz_J p l e R s m args below meth c g nL Q h mc ms tgt lo rest) (kf : ¬ x ≤ z → zz_J p l e R s m args below meth c g nL Q h mc ms (pc + 3) lo rest) : zz_J p l e R s m args below meth c g nL Q h mc ms pc lo (.int z :: .int x :: rest) := fun H locs ls hR hS hl => lv_icmp_le X.1 X.2.1 hdg ht (fun q => kt q H locs ls hR hS hl) (fun q => kf q H locs ls hR hS hl)
theorem zj_goto (X : zz_X l g y cc nL ret p s m args meth c) {off : Int} {tgt : Nat} (hdg : decode cc pc = .ok (.goto off, 3)) (ht : (pc : Int) + off = (tgt : Int)) (k : zz_J p l e R s m args below meth c g nL Q h mc ms tgt lo rest) : zz_J p l e R s m args below meth c g nL Q h mc ms pc lo rest := fun H locs ls hR hS hl => lv_goto X.1 X.2.1 hdg ht (k H locs ls hR hS hl)
theorem zj_ifnull (X : zz_X l g y cc nL ret p s m args meth c) {r : Option Nat} {off : Int} {tgt : Nat} (hdg : decode cc pc = .ok (.ifnull off, 3)) (ht : (pc : Int) + off = (tgt : Int)) (kt : r = none → zz_J p l e R s m args below meth c g nL Q h mc ms tgt lo rest) (kf : ∀ a, r = some a → zz_J p l e R s m args below meth c g nL Q h mc ms (pc + 3) lo rest) : zz_J p l e R s m args below meth c g nL Q h mc ms pc lo (va_rf r :: rest) := fun H locs ls hR hS hl => by
  cases r with
  | none => exact lv_ifnullN X.1 X.2.1 hdg ht (kt rfl H locs ls hR hS hl)
  | some a => exact lv_ifnull X.1 X.2.1 hdg (kf a rfl H locs ls hR hS hl)
theorem zj_ifnonnull (X : zz_X l g y cc nL ret p s m args meth c) {r : Option Nat} {off : Int} {tgt : Nat} (hdg : decode cc pc = .ok (.ifnonnull off, 3)) (ht : (pc : Int) + off = (tgt : Int)) (kt : ∀ a, r = some a → zz_J p l e R s m args below meth c g nL Q h mc ms tgt lo rest) (kf : r = none → zz_J p l e R s m args below meth c g nL Q h mc ms (pc + 3) lo rest) : zz_J p l e R s m args below meth c g nL Q h mc ms pc lo (va_rf r :: rest) := fun H locs ls hR hS hl => by
  cases r with
  | none => exact lv_ifnonnullN X.1 X.2.1 hdg (kf rfl H locs ls hR hS hl)
  | some a => exact lv_ifnonnull X.1 X.2.1 hdg ht (kt a rfl H locs ls hR hS hl)
theorem zj_acmp_eq (X : zz_X l g y cc nL ret p s m args meth c) {rx ry : Option Nat} {off : Int} {tgt : Nat} (hdg : decode cc pc = .ok (.if_acmp .eq off, 3)) (ht : (pc : Int) + off = (tgt : Int)) (kt : rx = ry → zz_J p l e R s m args below meth c g nL Q h mc ms tgt lo rest) (kf : ¬ rx = ry → zz_J p l e R s m args below meth c g nL Q h mc ms (pc + 3) lo rest) : zz_J p l e R s m args below meth c g nL Q h mc ms pc lo (va_rf ry :: va_rf rx :: rest) := fun H locs ls hR hS hl => lv_acmp_eq X.1 X.2.1 hdg ht (fun q => kt q H locs ls hR hS hl) (fun q => kf q H locs ls hR hS hl)
theorem zj_acmp_ne (X : zz_X l g y cc nL ret p s m args meth c) {rx ry : Option Nat} {off : Int} {tgt : Nat} (hdg : decode cc pc = .ok (.if_acmp .ne off, 3)) (ht : (pc : Int) + off = (tgt : Int)) (kt : ¬ rx = ry → zz_J p l e R s m args below meth c g nL Q h mc ms tgt lo rest) (kf : rx = ry → zz_J p l e R s m args below meth c g nL Q h mc ms (pc + 3) lo rest) : zz_J p l e R s m args below meth c g nL Q h mc ms pc lo (va_rf ry :: va_rf rx :: rest) := fun H locs ls hR hS hl => lv_acmp_ne X.1 X.2.1 hdg ht (fun q => kt q H locs ls hR hS hl) (fun q => kf q H locs ls hR hS hl)
theorem zj_widen {k n : Nat} (h1 : mc ≤ k) (h2 : ms ≤ n) (kk : zz_J p l e R s m args below meth c g nL Q h k n pc lo rest) : zz_J p l e R s m args below meth c g nL Q h mc ms pc lo rest := fun H locs ls hR hS hl => W.widen h1 h2 (kk H locs ls hR hS hl)
theorem zj_less {h' : zz_H} (hh : ∀ (a : Nat) (e : zz_E), h' a = some e → h a = some e) (kk : zz_J p l e R s m args below meth c g nL Q h' mc ms pc lo rest) : zz_J p l e R s m args below meth c g nL Q h mc ms pc lo rest := fun H locs ls hR hS hl => kk H locs ls (hR.mono hh) hS hl
theorem zj_lo {lo' : List (Nat × Value)} (kk : zz_J p l e R s m args below meth c g nL Q h mc ms pc lo' rest) (hz : zl lo lo') : zz_J p l e R s m args below meth c g nL Q h mc ms pc lo rest := fun H locs ls hR hS hl => kk H locs ls hR hS (zl.has hl hz)
theorem zj_top {x x' : Int32} (hx : x = x') (kk : zz_J p l e R s m args below meth c g nL Q h mc ms pc lo (.int x' :: rest)) : zz_J p l e R s m args below meth c g nL Q h mc ms pc lo (.int x :: rest) := hx ▸ kk
theorem zj_st {st : List Value} (hx : rest = st) (kk : zz_J p l e R s m args below meth c g nL Q h mc ms pc lo st) : zz_J p l e R s m args below meth c g nL Q h mc ms pc lo rest := hx ▸ kk
theorem zj_at {pc' : Nat} (hz : pc = pc') (kk : zz_J p l e R s m args below meth c g nL Q h mc ms pc' lo rest) : zz_J p l e R s m args below meth c g nL Q h mc ms pc lo rest := hz ▸ kk
theorem zz_X.own (X : zz_X l g y cc nL ret p s m args meth c) : s.vm.findClass y.cls = some m.cls := X.2.2.2.2.2.1
theorem zz_X.ts (X : zz_X l g y cc nL ret p s m args meth c) : ∀ w ∈ lw_all, w.before args s = true := X.2.2.2.2.1
theorem zz_X.locks (X : zz_X l g y cc nL ret p s m args meth c) : meth.locks = false := X.2.2.2.2.2.2.1
theorem zz_X.W (X : zz_X l g y cc nL ret p s m args meth c) : zz_W g s := X.2.2.2.2.2.2.2.2
theorem zz_X.K (X : zz_X l g y cc nL ret p s m args meth c) : va_K (gD g) vwCl (gT g) s := X.W.1.1
theorem zj_get (X : zz_X l g y cc nL ret p s m args meth c) {ref C : String} {T : u_T} {N ci index a : Nat} {fs : List Value} {v : Value} (hin : ∀ w ∈ u_ws C T N, w ∈ lw_all) (hc : vwCl[ci]? = some (C, T, N)) (k : Nat) (hk : k < N) (hlink : Cond.fieldLink y.cls index ref (T k).2.1 (T k).2.2.1 ∈ lw_all) (hsame : ∀ x, s.fieldFound? (T k).1 (T k).2.1 (T k).2.2.1 = some x → s.fieldFound? ref (T k).2.1 (T k).2.2.1 = some x) (ha : h a = some (eO ci fs)) (hv : fs[k]? = some v) (h8 : ci ≠ 8 ∨ k ≠ 1) (hdg : decode cc pc = .ok (.getfield index, 3)) (kk : zz_J p l e R s m args below meth c g nL Q h mc ms (pc + 3) lo (v :: rest)) : zz_J p l e R s m args below meth c g nL Q h mc ms pc lo (.ref a :: rest) := fun H locs ls hR hS hl => by
  obtain ⟨fs', h1, h2, -, -⟩ := hR.obj ha
  exact va_get (ws := [(a, .inr (ci, fs'))]) X.1 X.2.1 X.ts hin X.own X.K (fun k q hq => by match k, hq with | 0, hq => cases hq; exact h1 | k + 1, hq => cases hq) 0 rfl hc k hk (X.ts _ hlink) hsame (by rw [h2 k h8]; exact hv) hdg (kk H locs ls hR hS hl)
theorem zj_getN (X : zz_X l g y cc nL ret p s m args meth c) {ref C host : String} {T : u_T} {N ci index a : Nat} {fs : List Value} {v : Value} (hin : ∀ w ∈ u_ws C T N, w ∈ lw_all) (hc : vwCl[ci]? = some (C, T, N)) (k : Nat) (hk : k < N) (hlink : Cond.fieldLinkNest y.cls index ref (T k).2.1 (T k).2.2.1 host ∈ lw_tbl) (hsame : ∀ x, s.fieldFound? (T k).1 (T k).2.1 (T k).2.2.1 = some x → s.fieldFound? ref (T k).2.1 (T k).2.2.1 = some x) (ha : h a = some (eO ci fs)) (hv : fs[k]? = some v) (h8 : ci ≠ 8 ∨ k ≠ 1) (hdg : decode cc pc = .ok (.getfield index, 3)) (kk : zz_J p l e R s m args below meth c g nL Q h mc ms (pc + 3) lo (v :: rest)) : zz_J p l e R s m args below meth c g nL Q h mc ms pc lo (.ref a :: rest) := fun H locs ls hR hS hl => by
  obtain ⟨fs', h1, h2, -, -⟩ := hR.obj ha
  exact va_getN (ws := [(a, .inr (ci, fs'))]) X.1 X.2.1 X.ts hin X.own X.K (fun k q hq => by match k, hq with | 0, hq => cases hq; exact h1 | k + 1, hq => cases hq) 0 rfl hc k hk (va_Nw.use rfl (X.W.1.2.2.1 _ _ _ _ _ _ hlink)) hsame (by rw [h2 k h8]; exact hv) hdg (kk H locs ls hR hS hl)
theorem zz_R.put {H H1 : Heap} (hR : zz_R g H h) {a ci k : Nat} {fs fs' : List Value} {v : Value} (ha : h a = some (eO ci fs)) (h11 : ci ≠ 11 ∨ ∀ b, fs ≠ [.ref b]) (hfs : ∀ _ : Unit, (ci ≠ 8 → fs' = fs) ∧ (ci = 8 → ∃ w, fs' = fs.set 1 w ∧ zz_V g h a w H)) (h8 : ci ≠ 8 ∨ k ≠ 1) (he : zz_cell g a (eO ci (fs'.set k v)) H1) (oq : ∀ q : Nat, q ≠ a → H1[q]? = H[q]?) : zz_R g H1 (zz_up h a (eO ci (fs.set k v))) := by
  refine hR.set ha (fun b z => by cases z; exact h11.elim (fun w => w rfl) (fun w => w b rfl)) oq ?_
  by_cases hc : ci = 8
  · subst hc
    obtain ⟨w, e1, e2⟩ := (hfs ()).2 rfl
    have hk1 : k ≠ 1 := h8.resolve_left (fun z => z rfl)
    refine ⟨w, ?_, e2.step (a0 := a) (fun q _ hq => oq q hq) (fun q _ hq => ?_)⟩
    · rw [e1, List.set_comm _ _ (Ne.symm hk1)] at he
      exact he
    · have hqa : q ≠ a := fun z => by
        rw [z, ha] at hq
        rcases hq with hq | hq <;> cases hq
      exact ⟨by rw [zz_up_n hqa]; exact hq, hqa⟩
  · rw [zz_at_O hc]
    rw [(hfs ()).1 hc] at he
    exact he
theorem zj_put (X : zz_X l g y cc nL ret p s m args meth c) {ref C : String} {T : u_T} {N ci index a : Nat} {fs : List Value} {v : Value} (hin : ∀ w ∈ u_ws C T N, w ∈ lw_all) (ty0 : Nat → FieldType) (hty : ∀ k, k < N → parseFieldDescriptor (T k).2.2.1 = some (ty0 k)) (hnm : ∀ a, a < N → ∀ b, b < N → a ≠ b → (T a).2.1 ≠ (T b).2.1) (hc : vwCl[ci]? = some (C, T, N)) (k : Nat) (hk : k < N) (hlink : Cond.fieldLink y.cls index ref (T k).2.1 (T k).2.2.1 ∈ lw_all) (hsame : ∀ x, s.fieldFound? (T k).1 (T k).2.1 (T k).2.2.1 = some x → s.fieldFound? ref (T k).2.1 (T k).2.2.1 = some x) (hfin : (T k).2.2.2 = false) (ha : h a = some (eO ci fs)) (hn : narrow (ty0 k) v = v) (hfit : fits (ty0 k) v = true) (hl0 : k < fs.length) (h8 : (ci ≠ 8 ∧ ci ≠ 11) ∨ (k ≠ 1 ∧ ci ≠ 11)) (hdg : decode cc pc = .ok (.putfield index, 3)) (kk : zz_J p l e R s m args below meth c g nL Q (zz_up h a (eO ci (fs.set k v))) mc ms (pc + 3) lo rest) : zz_J p l e R s m args below meth c g nL Q h mc ms pc lo (v :: .ref a :: rest) := fun H locs ls hR hS hl => by
  have hts := X.ts
  have hown := X.own
  have hK := X.K
  obtain ⟨fs', hcell, hfs, hlen, hne, heq⟩ := hR.obj ha
  have hA : gF g a := (hR a _ ha).2
  have hap := va_apart (own := y.cls) hts hin ty0 hty hnm hK hc
  obtain ⟨r, h1, cell, q1, q2, q3, q4⟩ := hcell
  have hr : r = (C, T, N) := Option.some.inj (h1.symm.trans hc)
  subst hr
  obtain ⟨hSl, hfc, kC, hkC, hkind⟩ := hK.1 ci _ hc
  obtain ⟨cf, kf, fi, f, hi, hsl⟩ := hSl k hk
  have hlay := hts _ (hin _ (u_in_lay hk))
  unfold u_lay at hlay
  rw [if_neg (by rw [hfin]; decide)] at hlay
  have hst := (u_facts hfc hkC (u_lays hts hin hk) hi).1
  have h6 := u_store hfc hkC hkind hlay hi (hty k hk) hn hfit
  refine W.putK X.1 X.2.1 (f := f) ⟨hown, hts _ hlink, ⟨_, _, _, hsame _ hi⟩, hst⟩ (by rw [q2]; exact h6) q1 q3 (by rw [hsl]; exact k2_hasslot (q4 k hk)) rfl rfl hdg fun H' e1 e2 e3 => ?_
  rw [hsl] at e1 ⊢
  refine kk H' _ ls (hR.put ha (h8.elim (fun z => Or.inl z.2) (fun z => Or.inl z.2)) (fun _ => ⟨hne, heq⟩) (h8.imp And.left And.left) ?_ e3) (hS.put e2 e3 hA) hl
  exact ⟨_, hc, t_OB.to (V := updV (vp_V fs') k v) ⟨_, e1, q2, q3, t_set q4 hap hk v⟩ (fun j _ => vp_updV_set (by rw [hlen]; exact hl0) v j)⟩
theorem zj_putN (X : zz_X l g y cc nL ret p s m args meth c) {host : String} {ref C : String} {T : u_T} {N ci index a : Nat} {fs : List Value} {v : Value} (hin : ∀ w ∈ u_ws C T N, w ∈ lw_all) (ty0 : Nat → FieldType) (hty : ∀ k, k < N → parseFieldDescriptor (T k).2.2.1 = some (ty0 k)) (hnm : ∀ a, a < N → ∀ b, b < N → a ≠ b → (T a).2.1 ≠ (T b).2.1) (hc : vwCl[ci]? = some (C, T, N)) (k : Nat) (hk : k < N) (hlink : Cond.fieldLinkNest y.cls index ref (T k).2.1 (T k).2.2.1 host ∈ lw_tbl) (hsame : ∀ x, s.fieldFound? (T k).1 (T k).2.1 (T k).2.2.1 = some x → s.fieldFound? ref (T k).2.1 (T k).2.2.1 = some x) (hfin : (T k).2.2.2 = false) (ha : h a = some (eO ci fs)) (hn : narrow (ty0 k) v = v) (hfit : fits (ty0 k) v = true) (hl0 : k < fs.length) (h8 : (ci ≠ 8 ∧ ci ≠ 11) ∨ (k ≠ 1 ∧ ci ≠ 11)) (hdg : decode cc pc = .ok (.putfield index, 3)) (kk : zz_J p l e R s m args below meth c g nL Q (zz_up h a (eO ci (fs.set k v))) mc ms (pc + 3) lo rest) : zz_J p l e R s m args below meth c g nL Q h mc ms pc lo (v :: .ref a :: rest) := fun H locs ls hR hS hl => by
  have hts := X.ts
  have hown := X.own
  have hK := X.K
  obtain ⟨fs', hcell, hfs, hlen, hne, heq⟩ := hR.obj ha
  have hA : gF g a := (hR a _ ha).2
  have hap := va_apart (own := y.cls) hts hin ty0 hty hnm hK hc
  obtain ⟨r, h1, cell, q1, q2, q3, q4⟩ := hcell
  have hr : r = (C, T, N) := Option.some.inj (h1.symm.trans hc)
  subst hr
  obtain ⟨hSl, hfc, kC, hkC, hkind⟩ := hK.1 ci _ hc
  obtain ⟨cf, kf, fi, f, hi, hsl⟩ := hSl k hk
  have hlay := hts _ (hin _ (u_in_lay hk))
  unfold u_lay at hlay
  rw [if_neg (by rw [hfin]; decide)] at hlay
  have hst := (u_facts hfc hkC (u_lays hts hin hk) hi).1
  have h6 := u_store hfc hkC hkind hlay hi (hty k hk) hn hfit
  refine va_WputK X.1 X.2.1 (f := f) hown (va_Nw.use rfl (X.W.1.2.2.1 _ _ _ _ _ _ hlink)) (hsame _ hi) hst (by rw [q2]; exact h6) q1 q3 (by rw [hsl]; exact k2_hasslot (q4 k hk)) rfl rfl hdg fun H' e1 e2 e3 => ?_
  rw [hsl] at e1 ⊢
  refine kk H' _ ls (hR.put ha (h8.elim (fun z => Or.inl z.2) (fun z => Or.inl z.2)) (fun _ => ⟨hne, heq⟩) (h8.imp And.left And.left) ?_ e3) (hS.put e2 e3 hA) hl
  exact ⟨_, hc, t_OB.to (V := updV (vp_V fs') k v) ⟨_, e1, q2, q3, t_set q4 hap hk v⟩ (fun j _ => vp_updV_set (by rw [hlen]; exact hl0) v j)⟩
theorem zj_putG (X : zz_X l g y cc nL ret p s m args meth c) {ref C : String} {T : u_T} {N ci index a : Nat} {fs : List Value} {v : Value} (hin : ∀ w ∈ u_ws C T N, w ∈ lw_all) (ty0 : Nat → FieldType) (hty : ∀ k, k < N → parseFieldDescriptor (T k).2.2.1 = some (ty0 k)) (hnm : ∀ a, a < N → ∀ b, b < N → a ≠ b → (T a).2.1 ≠ (T b).2.1) (hc : vwCl[ci]? = some (C, T, N)) (k : Nat) (hk : k < N) (hlink : Cond.fieldLink y.cls index ref (T k).2.1 (T k).2.2.1 ∈ lw_all) (hsame : ∀ x, s.fieldFound? (T k).1 (T k).2.1 (T k).2.2.1 = some x → s.fieldFound? ref (T k).2.1 (T k).2.2.1 = some x) (hfin : (T k).2.2.2 = true) (hin2 : y.name = "<init>") (hdecl : (T k).1 = y.cls) (ha : h a = some (eO ci fs)) (hn : narrow (ty0 k) v = v) (hfit : fits (ty0 k) v = true) (hl0 : k < fs.length) (h8 : ci ≠ 8 ∨ k ≠ 1) (h11 : ci ≠ 11 ∨ ∀ b, fs ≠ [.ref b]) (hdg : decode cc pc = .ok (.putfield index, 3)) (kk : zz_J p l e R s m args below meth c g nL Q (zz_up h a (eO ci (fs.set k v))) mc ms (pc + 3) lo rest) : zz_J p l e R s m args below meth c g nL Q h mc ms pc lo (v :: .ref a :: rest) := fun H locs ls hR hS hl => by
  have hts := X.ts
  have hown := X.own
  have hK := X.K
  obtain ⟨fs', hcell, hfs, hlen, hne, heq⟩ := hR.obj ha
  have hA : gF g a := (hR a _ ha).2
  have hap := va_apart (own := y.cls) hts hin ty0 hty hnm hK hc
  obtain ⟨r, h1, cell, q1, q2, q3, q4⟩ := hcell
  have hr : r = (C, T, N) := Option.some.inj (h1.symm.trans hc)
  subst hr
  obtain ⟨hSl, hfc, kC, hkC, hkind⟩ := hK.1 ci _ hc
  obtain ⟨cf, kf, fi, f, hi, hsl⟩ := hSl k hk
  have hlay := hts _ (hin _ (u_in_lay hk))
  unfold u_lay at hlay
  rw [if_pos hfin] at hlay
  have hst := (u_facts hfc hkC (u_lays hts hin hk) hi).1
  have hcf : m.cls = cf := by
    obtain ⟨_, _, c', _, _, _, -, -, hf', -, -, -, hown2, -⟩ := Cond.laysFinal_spec hlay
    have e1 : c' = cf := by have := hi.symm.trans hf'; simp at this; exact this.1.symm
    rw [hdecl] at hown2
    rw [← e1]; exact Option.some.inj (hown.symm.trans hown2)
  have h6 := u_fits hfc hkC hkind (Or.inr hlay) hi (hty k hk) hn hfit
  refine W.putFinK X.1 X.2.1 hown (hts _ hlink) (hsame _ hi) hst hcf (X.2.2.2.2.2.2.2.1.trans hin2) (by rw [q2]; exact h6) q1 q3 (by rw [hsl]; exact k2_hasslot (q4 k hk)) rfl rfl hdg fun H' e1 e2 e3 => ?_
  rw [hsl] at e1 ⊢
  refine kk H' _ ls (hR.put ha h11 (fun _ => ⟨hne, heq⟩) h8 ?_ e3) (hS.put e2 e3 hA) hl
  exact ⟨_, hc, t_OB.to (V := updV (vp_V fs') k v) ⟨_, e1, q2, q3, t_set q4 hap hk v⟩ (fun j _ => vp_updV_set (by rw [hlen]; exact hl0) v j)⟩
theorem zj_putF (X : zz_X l g y cc nL ret p s m args meth c) {ref C : String} {T : u_T} {N ci index a : Nat} {fs : List Value} {v : Value} (hin : ∀ w ∈ u_ws C T N, w ∈ lw_all) (ty0 : Nat → FieldType) (hty : ∀ k, k < N → parseFieldDescriptor (T k).2.2.1 = some (ty0 k)) (hnm : ∀ a, a < N → ∀ b, b < N → a ≠ b → (T a).2.1 ≠ (T b).2.1) (hc : vwCl[ci]? = some (C, T, N)) (k : Nat) (hk : k < N) (hlink : Cond.fieldLink y.cls index ref (T k).2.1 (T k).2.2.1 ∈ lw_all) (hsame : ∀ x, s.fieldFound? (T k).1 (T k).2.1 (T k).2.2.1 = some x → s.fieldFound? ref (T k).2.1 (T k).2.2.1 = some x) (hfin : (T k).2.2.2 = true) (hin2 : y.name = "<init>") (hdecl : (T k).1 = y.cls) (ha : h a = some (eO ci fs)) (hn : narrow (ty0 k) v = v) (hfit : fits (ty0 k) v = true) (hl0 : k < fs.length) (h8 : (ci ≠ 8 ∧ ci ≠ 11) ∨ (k ≠ 1 ∧ ci ≠ 11)) (hdg : decode cc pc = .ok (.putfield index, 3)) (kk : zz_J p l e R s m args below meth c g nL Q (zz_up h a (eO ci (fs.set k v))) mc ms (pc + 3) lo rest) : zz_J p l e R s m args below meth c g nL Q h mc ms pc lo (v :: .ref a :: rest) := zj_putG X hin ty0 hty hnm hc k hk hlink hsame hfin hin2 hdecl ha hn hfit hl0 (h8.imp And.left And.left) (h8.elim (fun z => Or.inl z.2) (fun z => Or.inl z.2)) hdg kk
theorem zz_ix {n j : Nat} {i : Int32} (hi : i = nI j) (hj : j < n) (hn : n < 2 ^ 31) : vp_in i n ∧ i.toNatClampNeg = j := by
  subst hi
  exact ⟨vp_in_nI hj hn, nI_clamp (by omega)⟩
theorem zz_one {D : va_G} {cl : List vw_C} {q : Nat × va_E} {H : Heap} (h : va_at D cl q H) : va_P D cl [q] H := fun k x hx => by
  match k, hx with
  | 0, hx => cases hx; exact h
  | k + 1, hx => cases hx
theorem zz_D1 {A : Nat → Prop} {q : Nat × va_E} (h : A q.1) : va_D A [q] := by
  refine ⟨fun i j x y hi hj _ => ?_, fun k x hx => ?_⟩
  · have h1 := (List.getElem?_eq_some_iff.mp hi).1
    have h2 := (List.getElem?_eq_some_iff.mp hj).1
    simp at h1 h2
    omega
  · match k, hx with
    | 0, hx => cases hx; exact h
    | k + 1, hx => cases hx
theorem zj_iald (X : zz_X l g y cc nL ret p s m args meth c) {a n j : Nat} {f : Nat → Int32} {i : Int32} (ha : h a = some (eI n f)) (hi : i = nI j) (hj : j < n) (hn : n < 2 ^ 31) (hdg : decode cc pc = .ok (.iaload, 1)) (kk : zz_J p l e R s m args below meth c g nL Q h mc ms (pc + 1) lo (.int (f j) :: rest)) : zz_J p l e R s m args below meth c g nL Q h mc ms pc lo (.int i :: .ref a :: rest) := fun H locs ls hR hS hl => by
  obtain ⟨h1, h2⟩ := zz_ix hi hj hn
  have h3 : va_at (gD g) vwCl (a, .inl (gA g 0, n, .inl f)) H := (hR a _ ha).1
  have h3 := zz_one h3
  refine va_iald X.1 X.2.1 X.K h3 0 0 rfl rfl h1 hdg ?_
  rw [h2]
  exact kk H locs ls hR hS hl
theorem zj_zald (X : zz_X l g y cc nL ret p s m args meth c) {a n j : Nat} {f : Nat → Int32} {i : Int32} (ha : h a = some (eZ n f)) (hi : i = nI j) (hj : j < n) (hn : n < 2 ^ 31) (hdg : decode cc pc = .ok (.baload, 1)) (kk : zz_J p l e R s m args below meth c g nL Q h mc ms (pc + 1) lo (.int (f j) :: rest)) : zz_J p l e R s m args below meth c g nL Q h mc ms pc lo (.int i :: .ref a :: rest) := fun H locs ls hR hS hl => by
  obtain ⟨h1, h2⟩ := zz_ix hi hj hn
  have h3 : va_at (gD g) vwCl (a, .inl (gA g 1, n, .inl f)) H := (hR a _ ha).1
  have h3 := zz_one h3
  refine va_zald X.1 X.2.1 X.K h3 0 1 rfl rfl h1 hdg ?_
  rw [h2]
  exact kk H locs ls hR hS hl
theorem zj_lald (X : zz_X l g y cc nL ret p s m args meth c) {a n j : Nat} {f : Nat → Int64} {i : Int32} (ha : h a = some (eJ n f)) (hi : i = nI j) (hj : j < n) (hn : n < 2 ^ 31) (hdg : decode cc pc = .ok (.laload, 1)) (kk : zz_J p l e R s m args below meth c g nL Q h mc ms (pc + 1) lo (.long (f j) :: rest)) : zz_J p l e R s m args below meth c g nL Q h mc ms pc lo (.int i :: .ref a :: rest) := fun H locs ls hR hS hl => by
  obtain ⟨h1, h2⟩ := zz_ix hi hj hn
  have h3 : va_at (gD g) vwCl (a, .inl (gA g 2, n, .inr (.inl f))) H := (hR a _ ha).1
  have h3 := zz_one h3
  refine va_lald X.1 X.2.1 X.K h3 0 2 rfl rfl h1 hdg ?_
  rw [h2]
  exact kk H locs ls hR hS hl
theorem zj_ald (X : zz_X l g y cc nL ret p s m args meth c) {a n j : Nat} {f : Nat → Option Nat} {i : Int32} (ha : h a = some (eR n f)) (hi : i = nI j) (hj : j < n) (hn : n < 2 ^ 31) (hdg : decode cc pc = .ok (.aaload, 1)) (kk : zz_J p l e R s m args below meth c g nL Q h mc ms (pc + 1) lo (va_rf (f j) :: rest)) : zz_J p l e R s m args below meth c g nL Q h mc ms pc lo (.int i :: .ref a :: rest) := fun H locs ls hR hS hl => by
  obtain ⟨h1, h2⟩ := zz_ix hi hj hn
  have h3 : va_at (gD g) vwCl (a, .inl (gA g 3, n, .inr (.inr (.inr (.inr f))))) H := (hR a _ ha).1
  have h3 := zz_one h3
  refine va_aldq X.1 X.2.1 X.K h3 0 3 rfl rfl h1 hdg ?_
  rw [h2]
  exact kk H locs ls hR hS hl
theorem zj_iast (X : zz_X l g y cc nL ret p s m args meth c) {a n j : Nat} {f : Nat → Int32} {i : Int32} {x : Int32} (ha : h a = some (eI n f)) (hi : i = nI j) (hj : j < n) (hn : n < 2 ^ 31) (hdg : decode cc pc = .ok (.iastore, 1)) (kk : zz_J p l e R s m args below meth c g nL Q (zz_up h a (eI n (upd f j x))) mc ms (pc + 1) lo rest) : zz_J p l e R s m args below meth c g nL Q h mc ms pc lo (.int x :: .int i :: .ref a :: rest) := fun H locs ls hR hS hl => by
  obtain ⟨h1, h2⟩ := zz_ix hi hj hn
  have hA : gF g a := (hR a _ ha).2
  have h3 : zz_cell g a (eI n f) H := (hR a _ ha).1
  refine W.iast X.1 X.2.1 h3 ((X.K.2 0 _ rfl).1 n (fun j => .int (f j))) (fun q => by cases q) (by show ¬ (i < 0 ∨ (arrV _ _ _).slots.size ≤ _); rw [arrV_size]; exact h1) rfl rfl hdg fun H1 e1 z oq => ?_
  refine kk H1 _ ls (hR.set ha (fun _ z => by cases z) oq ?_) (hS.put z oq hA) hl
  show H1[a]? = some (vp_cell _ _)
  rw [e1]
  rw [vp_cell_i, vp_cell_i, arrV_store]
  congr 2
  funext q
  rw [h2]
  by_cases hq : q = j
  · subst hq
    simp [updV, upd]
    try rfl
  · simp [updV, upd, hq]
theorem zj_zast (X : zz_X l g y cc nL ret p s m args meth c) {a n j : Nat} {f : Nat → Int32} {i : Int32} {x : Int32} (ha : h a = some (eZ n f)) (hi : i = nI j) (hj : j < n) (hn : n < 2 ^ 31) (hdg : decode cc pc = .ok (.bastore, 1)) (kk : zz_J p l e R s m args below meth c g nL Q (zz_up h a (eZ n (upd f j (vp_nar .boolean x)))) mc ms (pc + 1) lo rest) : zz_J p l e R s m args below meth c g nL Q h mc ms pc lo (.int x :: .int i :: .ref a :: rest) := fun H locs ls hR hS hl => by
  obtain ⟨h1, h2⟩ := zz_ix hi hj hn
  have hA : gF g a := (hR a _ ha).2
  have h3 : zz_cell g a (eZ n f) H := (hR a _ ha).1
  refine W.zast X.1 X.2.1 h3 ((X.K.2 1 _ rfl).1 n (fun j => .int (f j))) (fun q => by cases q) (by show ¬ (i < 0 ∨ (arrV _ _ _).slots.size ≤ _); rw [arrV_size]; exact h1) rfl rfl hdg fun H1 e1 z oq => ?_
  refine kk H1 _ ls (hR.set ha (fun _ z => by cases z) oq ?_) (hS.put z oq hA) hl
  show H1[a]? = some (vp_cell _ _)
  rw [e1]
  rw [vp_cell_i, vp_cell_i, arrV_store]
  congr 2
  funext q
  rw [h2]
  by_cases hq : q = j
  · subst hq
    simp [updV, upd, vp_nar]
    try rfl
  · simp [updV, upd, vp_nar, hq]
theorem zj_last (X : zz_X l g y cc nL ret p s m args meth c) {a n j : Nat} {f : Nat → Int64} {i : Int32} {x : Int64} (ha : h a = some (eJ n f)) (hi : i = nI j) (hj : j < n) (hn : n < 2 ^ 31) (hdg : decode cc pc = .ok (.lastore, 1)) (kk : zz_J p l e R s m args below meth c g nL Q (zz_up h a (eJ n (vp_updL f j x))) mc ms (pc + 1) lo rest) : zz_J p l e R s m args below meth c g nL Q h mc ms pc lo (.long x :: .int i :: .ref a :: rest) := fun H locs ls hR hS hl => by
  obtain ⟨h1, h2⟩ := zz_ix hi hj hn
  have hA : gF g a := (hR a _ ha).2
  have h3 : zz_cell g a (eJ n f) H := (hR a _ ha).1
  refine W.last X.1 X.2.1 h3 ((X.K.2 2 _ rfl).1 n (fun j => .long (f j))) (fun q => by cases q) (by show ¬ (i < 0 ∨ (arrV _ _ _).slots.size ≤ _); rw [arrV_size]; exact h1) rfl rfl hdg fun H1 e1 z oq => ?_
  refine kk H1 _ ls (hR.set ha (fun _ z => by cases z) oq ?_) (hS.put z oq hA) hl
  show H1[a]? = some (vp_cell _ _)
  rw [e1]
  rw [vp_cell_l, vp_cell_l, arrV_store]
  congr 2
  funext q
  rw [h2]
  by_cases hq : q = j
  · subst hq
    simp [updV, vp_updL]
    try rfl
  · simp [updV, vp_updL, hq]
theorem zj_ast (X : zz_X l g y cc nL ret p s m args meth c) {a n j v ci : Nat} {f : Nat → Option Nat} {i : Int32} {r : vw_C} {vs : List Value} (ha : h a = some (eR n f)) (hv : h v = some (eO ci vs)) (hc : vwCl[ci]? = some r) (hcast : va_Nw (.castable r.1 "java/lang/Object") s) (hi : i = nI j) (hj : j < n) (hn : n < 2 ^ 31) (hdg : decode cc pc = .ok (.aastore, 1)) (kk : zz_J p l e R s m args below meth c g nL Q (zz_up h a (eR n (va_up f j (some v)))) mc ms (pc + 1) lo rest) : zz_J p l e R s m args below meth c g nL Q h mc ms pc lo (.ref v :: .int i :: .ref a :: rest) := fun H locs ls hR hS hl => by
  obtain ⟨h1, h2⟩ := zz_ix hi hj hn
  have hA : gF g a := (hR a _ ha).2
  have h3 : zz_cell g a (eR n f) H := (hR a _ ha).1
  obtain ⟨fs', ⟨r', hr', cellV, g1, g2, g3, -⟩, -⟩ := hR.obj hv
  have hlt : i.toNatClampNeg < n := Nat.not_le.mp fun q => h1 (Or.inr q)
  have h0 : ¬ i < 0 := fun q => h1 (Or.inl q)
  have hcls := (X.K.1 ci r hc).2
  obtain ⟨kA, comp, k1, k2, k3, -⟩ := (X.K.2 3 _ rfl).2
  obtain ⟨c1, c2, w1, w2, w3⟩ := Cond.castable_spec (args := #[]) (first := s) (o := none) (idx := []) hcast
  have hcomp : comp = c2 := Option.some.inj (k3.symm.trans w2)
  subst hcomp
  have hc1 : c1 = (gD g).1 ci := Option.some.inj (w1.symm.trans hcls.1)
  subst hc1
  obtain ⟨kC, hkC, -⟩ := hcls.2
  obtain ⟨kO, hkO, -⟩ := Vm.findClass_spec w2
  refine W.aast X.1 X.2.1 h3 (fun q h => by cases h) (fun h => by cases h) k1 k2 rfl hkO ⟨h0, by show _ < (arrV _ _ _).slots.size; rw [arrV_size]; exact hlt⟩ g1 (fun q h => by rw [g3] at h; cases h) (by rw [g2]; exact hkC) (by rw [g2]; exact w3) rfl rfl hdg fun H1 e1 z oq => ?_
  refine kk H1 _ ls (hR.set ha (fun _ z => by cases z) oq ?_) (hS.put z oq hA) hl
  show H1[a]? = some (vp_cell _ _)
  rw [e1]
  rw [vp_cell_q, vp_cell_q, arrV_store]
  congr 2
  funext q
  rw [h2]
  by_cases hq : q = j
  · subst hq
    simp [updV, va_up, va_rf]
  · simp [updV, va_up, hq]
theorem zj_alenI (X : zz_X l g y cc nL ret p s m args meth c) {a n : Nat} {f : Nat → Int32} (ha : h a = some (eI n f)) (hdg : decode cc pc = .ok (.arraylength, 1)) (kk : zz_J p l e R s m args below meth c g nL Q h mc ms (pc + 1) lo (.int (nI n) :: rest)) : zz_J p l e R s m args below meth c g nL Q h mc ms pc lo (.ref a :: rest) := fun H locs ls hR hS hl => va_alen (x := (n, .inl f)) X.1 X.2.1 X.K (zz_one (show va_at (gD g) vwCl (a, .inl (gA g 0, n, .inl f)) H from (hR a _ ha).1)) 0 0 rfl rfl rfl hdg (kk H locs ls hR hS hl)
theorem zj_alenZ (X : zz_X l g y cc nL ret p s m args meth c) {a n : Nat} {f : Nat → Int32} (ha : h a = some (eZ n f)) (hdg : decode cc pc = .ok (.arraylength, 1)) (kk : zz_J p l e R s m args below meth c g nL Q h mc ms (pc + 1) lo (.int (nI n) :: rest)) : zz_J p l e R s m args below meth c g nL Q h mc ms pc lo (.ref a :: rest) := fun H locs ls hR hS hl => va_alen (x := (n, .inl f)) X.1 X.2.1 X.K (zz_one (show va_at (gD g) vwCl (a, .inl (gA g 1, n, .inl f)) H from (hR a _ ha).1)) 0 1 rfl rfl rfl hdg (kk H locs ls hR hS hl)
theorem zj_alenJ (X : zz_X l g y cc nL ret p s m args meth c) {a n : Nat} {f : Nat → Int64} (ha : h a = some (eJ n f)) (hdg : decode cc pc = .ok (.arraylength, 1)) (kk : zz_J p l e R s m args below meth c g nL Q h mc ms (pc + 1) lo (.int (nI n) :: rest)) : zz_J p l e R s m args below meth c g nL Q h mc ms pc lo (.ref a :: rest) := fun H locs ls hR hS hl => va_alen (x := (n, .inr (.inl f))) X.1 X.2.1 X.K (zz_one (show va_at (gD g) vwCl (a, .inl (gA g 2, n, .inr (.inl f))) H from (hR a _ ha).1)) 0 2 rfl rfl rfl hdg (kk H locs ls hR hS hl)
theorem zj_alenR (X : zz_X l g y cc nL ret p s m args meth c) {a n : Nat} {f : Nat → Option Nat} (ha : h a = some (eR n f)) (hdg : decode cc pc = .ok (.arraylength, 1)) (kk : zz_J p l e R s m args below meth c g nL Q h mc ms (pc + 1) lo (.int (nI n) :: rest)) : zz_J p l e R s m args below meth c g nL Q h mc ms pc lo (.ref a :: rest) := fun H locs ls hR hS hl => va_alen (x := (n, .inr (.inr (.inr (.inr f))))) X.1 X.2.1 X.K (zz_one (show va_at (gD g) vwCl (a, .inl (gA g 3, n, .inr (.inr (.inr (.inr f))))) H from (hR a _ ha).1)) 0 3 rfl rfl rfl hdg (kk H locs ls hR hS hl)
theorem zj_newI (X : zz_X l g y cc nL ret p s m args meth c) {N : Nat} {i : Int32} (harr : (Cond.arrayClass (newarray.typeOf .int)) ∈ lw_all) (hi : i = nI N) (hN : N ≤ 65536) (hcells : mc + 1 ≤ R.cells) (hslots : ms + N ≤ R.slots) (hdg : decode cc pc = .ok (.newarray .int, 2)) (kk : ∀ q : Nat, h q = none → zz_J p l e R s m args below meth c g nL Q (zz_up h q (eI N (fun _ => 0))) (mc + 1) (ms + N) (pc + 2) lo (.ref q :: rest)) : zz_J p l e R s m args below meth c g nL Q h mc ms pc lo (.int i :: rest) := fun H locs ls hR hS hl => by
  subst hi
  refine va_newaK X.1 X.2.1 (X.ts _ harr) rfl hdg rfl (nI_pos (by omega)) (nI_clamp (by omega)) (by show N * 4 ≤ 536870912; omega) hcells hslots rfl fun H1 cA e1 z1 o1 hAr hNm => ?_
  have hcA : cA = gA g 0 := by
    have h1 : s.vm.findClass _ = some (gA g 0) := (X.K.2 0 _ rfl).2
    exact Option.some.inj (hNm.symm.trans h1)
  subst hcA
  have hz : gZ g ≤ H.size := Nat.le_trans X.W.2.2 hS.1
  refine kk H.size hR.new H1 locs ls (hR.push hz o1 ?_) ⟨Nat.le_trans hS.1 (by omega), fun x h1 h2 => (o1 x (Nat.lt_of_lt_of_le h1 hS.1)).trans (hS.2.1 x h1 h2), hS.2.2⟩ hl
  show H1[H.size]? = some (vp_cell _ _)
  rw [e1, vp_cell_i]
  rfl
theorem zj_newZ (X : zz_X l g y cc nL ret p s m args meth c) {N : Nat} {i : Int32} (harr : (Cond.arrayClass (newarray.typeOf .boolean)) ∈ lw_all) (hi : i = nI N) (hN : N ≤ 65536) (hcells : mc + 1 ≤ R.cells) (hslots : ms + N ≤ R.slots) (hdg : decode cc pc = .ok (.newarray .boolean, 2)) (kk : ∀ q : Nat, h q = none → zz_J p l e R s m args below meth c g nL Q (zz_up h q (eZ N (fun _ => 0))) (mc + 1) (ms + N) (pc + 2) lo (.ref q :: rest)) : zz_J p l e R s m args below meth c g nL Q h mc ms pc lo (.int i :: rest) := fun H locs ls hR hS hl => by
  subst hi
  refine va_newaK X.1 X.2.1 (X.ts _ harr) rfl hdg rfl (nI_pos (by omega)) (nI_clamp (by omega)) (by show N * 1 ≤ 536870912; omega) hcells hslots rfl fun H1 cA e1 z1 o1 hAr hNm => ?_
  have hcA : cA = gA g 1 := by
    have h1 : s.vm.findClass _ = some (gA g 1) := (X.K.2 1 _ rfl).2
    exact Option.some.inj (hNm.symm.trans h1)
  subst hcA
  have hz : gZ g ≤ H.size := Nat.le_trans X.W.2.2 hS.1
  refine kk H.size hR.new H1 locs ls (hR.push hz o1 ?_) ⟨Nat.le_trans hS.1 (by omega), fun x h1 h2 => (o1 x (Nat.lt_of_lt_of_le h1 hS.1)).trans (hS.2.1 x h1 h2), hS.2.2⟩ hl
  show H1[H.size]? = some (vp_cell _ _)
  rw [e1, vp_cell_i]
  rfl
theorem zj_newJ (X : zz_X l g y cc nL ret p s m args meth c) {N : Nat} {i : Int32} (harr : (Cond.arrayClass (newarray.typeOf .long)) ∈ lw_all) (hi : i = nI N) (hN : N ≤ 65536) (hcells : mc + 1 ≤ R.cells) (hslots : ms + N ≤ R.slots) (hdg : decode cc pc = .ok (.newarray .long, 2)) (kk : ∀ q : Nat, h q = none → zz_J p l e R s m args below meth c g nL Q (zz_up h q (eJ N (fun _ => 0))) (mc + 1) (ms + N) (pc + 2) lo (.ref q :: rest)) : zz_J p l e R s m args below meth c g nL Q h mc ms pc lo (.int i :: rest) := fun H locs ls hR hS hl => by
  subst hi
  refine va_newaK X.1 X.2.1 (X.ts _ harr) rfl hdg rfl (nI_pos (by omega)) (nI_clamp (by omega)) (by show N * 8 ≤ 536870912; omega) hcells hslots rfl fun H1 cA e1 z1 o1 hAr hNm => ?_
  have hcA : cA = gA g 2 := by
    have h1 : s.vm.findClass _ = some (gA g 2) := (X.K.2 2 _ rfl).2
    exact Option.some.inj (hNm.symm.trans h1)
  subst hcA
  have hz : gZ g ≤ H.size := Nat.le_trans X.W.2.2 hS.1
  refine kk H.size hR.new H1 locs ls (hR.push hz o1 ?_) ⟨Nat.le_trans hS.1 (by omega), fun x h1 h2 => (o1 x (Nat.lt_of_lt_of_le h1 hS.1)).trans (hS.2.1 x h1 h2), hS.2.2⟩ hl
  show H1[H.size]? = some (vp_cell _ _)
  rw [e1, vp_cell_l]
  rfl
theorem zj_new (X : zz_X l g y cc nL ret p s m args meth c) {C : String} {T : u_T} {N ci index : Nat} {fs : List Value} (hin : ∀ w ∈ u_ws C T N, w ∈ lw_all) (ty : Nat → FieldType) (hty : ∀ k, k < N → parseFieldDescriptor (T k).2.2.1 = some (ty k)) (hc : vwCl[ci]? = some (C, T, N)) (hcl : Cond.classLink y.cls index C ∈ lw_all) (hinst : Cond.instantiable C N ∈ lw_all) (hini : Cond.initialized C ∈ lw_all) (hfs : ∀ j, j < N → defaultValue (ty j) = vp_V fs j) (h8 : fs.set 1 .null = fs ∨ ci ≠ 8) (hcells : mc + 1 ≤ R.cells) (hslots : ms + N ≤ R.slots) (hdg : decode cc pc = .ok (.new index, 3)) (kk : ∀ q : Nat, h q = none → zz_J p l e R s m args below meth c g nL Q (zz_up h q (eO ci fs)) (mc + 1) (ms + N) (pc + 3) lo (.ref q :: rest)) : zz_J p l e R s m args below meth c g nL Q h mc ms pc lo rest := fun H locs ls hR hS hl => by
  have hKn := X.K.1 ci _ hc
  refine W.newcK X.1 X.2.1 X.own (X.ts _ hcl) (X.ts _ hinst) (X.ts _ hini) rfl hdg hcells hslots hKn.2.1 rfl fun H1 kC hkC e1 z1 o1 => ?_
  have hz : gZ g ≤ H.size := Nat.le_trans X.W.2.2 hS.1
  have hcell : zz_cell g H.size (eO ci fs) H1 := ⟨_, hc, (u_born ty X.ts hin hKn hkC e1 hty).to hfs⟩
  refine kk H.size hR.new H1 locs ls (hR.push hz o1 ?_) ⟨Nat.le_trans hS.1 (by omega), fun x h1 h2 => (o1 x (Nat.lt_of_lt_of_le h1 hS.1)).trans (hS.2.1 x h1 h2), hS.2.2⟩ hl
  by_cases h : ci = 8
  · subst h
    exact ⟨.null, by rw [h8.resolve_right (fun z => z rfl)]; exact hcell, Or.inl rfl⟩
  · rw [zz_at_O h]
    exact hcell
/-- behind a call, whatever comes back -/
theorem zj_run {mc2 ms2 : Nat} {st : List Value} {post : Option Value → zz_H → Prop} {aa : Array Value} (hr : ∀ (H : Heap) (locs : List Loc) (ls : Array Slot), zz_R g H h → va_S (gF g) s.heap H locs → lv_has ls nL lo → va_Run p l e R s m args below meth c H locs mc ms mc2 ms2 (F0 m pc ls st) rest (zz_Q g post aa) (gF g))
    (kk : ∀ (v : Option Value) (h' : zz_H), post v h' → zz_J p l e R s m args below meth c g nL Q h' (mc + mc2) (ms + ms2) (pc + 3) lo (v.toList ++ rest)) : zz_J p l e R s m args below meth c g nL Q h mc ms pc lo st := by
  intro H locs ls hR hS hl T hT X
  obtain ⟨v, st₀, t, T', L, h0, X', hL, e1, e2, ⟨⟨v', h', hv, hp, hh⟩, hz, hk⟩, sp⟩ := hr H locs ls hR hS hl T hT X
  cases hv
  rw [h0] at hz hk
  obtain ⟨t2, a1, b1⟩ := kk v h' hp T'.heap (locs ++ L) ls (by rw [e1]; exact hh)
    ⟨Nat.le_trans hS.1 (by rw [e1]; exact hz), fun q h1 h2 => by rw [e1, hk q (Nat.lt_of_lt_of_le h1 hS.1) h2]; exact hS.2.1 q h1 h2, fun q hq => by
      rcases List.mem_append.mp hq with h | h
      · exact hS.2.2 q h
      · exact hL q h⟩ hl T' rfl X'
  exact ⟨t2, sp t2 a1, b1⟩
theorem zz_X.fix (X : zz_X l g y cc nL ret p s m args meth c) : CallFix p m c cc nL s args lw_all y.cls := ⟨X.1, X.2.1, X.2.2.1, X.own, X.ts⟩
theorem zz_R.recv {H : Heap} (X : zz_X l g y cc nL ret p s m args meth c) (hR : zz_R g H h) {a ci : Nat} {fs : List Value} {q : vw_C} (ha : h a = some (eO ci fs)) (hc : vwCl[ci]? = some q) : ∃ cell : Cell, H[a]? = some cell ∧ cell.vm.isStatics = false ∧ s.vm.findClass q.1 = some cell.cls := by
  obtain ⟨fs', ⟨r, h1, cell, g1, g2, g3, -⟩, -⟩ := hR.obj ha
  exact ⟨cell, g1, by rw [g3]; rfl, by rw [g2]; exact (X.K.1 ci q hc).2.1⟩
/-- what is asked of a callee's name -/
def zz_ok (y : MethodName) (n : Nat) : Prop := y.cls ≠ "java/lang/invoke/MethodHandle" ∧ y.cls ≠ "java/lang/invoke/VarHandle" ∧ (parseMethodDescriptor y.desc).map (fun d => d.parameters.length) = some n
section ZC
variable {y2 : MethodName} {cc2 : ByteArray} {L2 index n : Nat} {ret2 : Option FieldType} {rm2 : Room} {As : List Value} {post : Option Value → zz_H → Prop} {st : List Value}
theorem zj_callV (X : zz_X l g y cc nL ret p s m args meth c) {a ci : Nat} {fs : List Value} {q : vw_C} (hM : zz_C l g y2 cc2 L2 ret2 rm2 (.ref a :: As) h post) (ha : h a = some (eO ci fs)) (hc : vwCl[ci]? = some q) (hq : y2.cls = q.1) (hok : zz_ok y2 n) (hG : GoodIn lw_all (wsV y.cls index q.1 y2 (ws_ y2 cc2 L2 ret2))) (hrm : rm2.frames + 1 ≤ R.frames ∧ 8 + (L2 + 11) + rm2.locals ≤ R.locals) (hn : As.length = n) (hst : st = As.reverse ++ .ref a :: rest) (hw : (rest.map fun v => v.category).sum ≤ 8) (hf : mc + rm2.cells ≤ R.cells ∧ ms + rm2.slots ≤ R.slots) (hdg : decode cc pc = .ok (.invokevirtual index, 3))
    (kk : ∀ (v : Option Value) (h' : zz_H), post v h' → zz_J p l e R s m args below meth c g nL Q h' (mc + rm2.cells) (ms + rm2.slots) (pc + 3) lo (v.toList ++ rest)) : zz_J p l e R s m args below meth c g nL Q h mc ms pc lo st := by
  refine zj_run (rest := rest) (aa := (Value.ref a :: As).toArray) (fun H locs ls hR hS hl => ?_) kk
  exact va_runV (As := As) (rest := rest) X.fix hM (cwV n X.ts hG rfl rfl rfl ⟨hq, hok⟩ hrm) ⟨zz_P.blind, hR.recv X ha hc, fun U hU hW => zz_P.at' X.W hR hS hU hW⟩ rfl hn hl.1 hst (lv_room hw) hdg hf
theorem zj_callI (X : zz_X l g y cc nL ret p s m args meth c) {a : Nat} (hM : zz_C l g y2 cc2 L2 none rm2 (.ref a :: As) h post) (hok : zz_ok y2 n) (hy1 : y2.name = "<init>") (hcode : Cond.code y2 cc2 L2 none ∈ lw_all) (hini : Cond.initialized y2.cls ∈ lw_all) (hlink : Cond.methodLink y.cls index y2 ∈ lw_all) (hinst : Cond.instanceMethod y2 ∈ lw_all) (hrm : rm2.frames + 1 ≤ R.frames ∧ 8 + (L2 + 11) + rm2.locals ≤ R.locals) (hn : As.length = n) (hst : st = As.reverse ++ .ref a :: rest) (hw : (rest.map fun v => v.category).sum ≤ 8) (hf : mc + rm2.cells ≤ R.cells ∧ ms + rm2.slots ≤ R.slots) (hdg : decode cc pc = .ok (.invokespecial index, 3))
    (kk : ∀ (v : Option Value) (h' : zz_H), post v h' → zz_J p l e R s m args below meth c g nL Q h' (mc + rm2.cells) (ms + rm2.slots) (pc + 3) lo (v.toList ++ rest)) : zz_J p l e R s m args below meth c g nL Q h mc ms pc lo st := by
  refine zj_run (rest := rest) (aa := (Value.ref a :: As).toArray) (fun H locs ls hR hS hl => ?_) kk
  exact va_runI (As := As) (rest := rest) X.fix hM (cwI n X.ts (lw_meth hcode) rfl rfl rfl (X.ts _ hini) (X.ts _ hlink) (X.ts _ hinst) hy1 hok hrm) ⟨zz_P.blind, fun U hU hW => zz_P.at' X.W hR hS hU hW⟩ rfl hn hl.1 hst (lv_room hw) hdg hf
theorem zj_callS (X : zz_X l g y cc nL ret p s m args meth c) (hM : zz_C l g y2 cc2 L2 ret2 rm2 As h post) (hok : zz_ok y2 n) (hG : GoodIn lw_all (va_wsS y.cls index y2 (ws_ y2 cc2 L2 ret2))) (hrm : rm2.frames + 1 ≤ R.frames ∧ 8 + (L2 + 11) + rm2.locals ≤ R.locals) (hn : As.length = n) (hst : st = As.reverse ++ rest) (hw : (rest.map fun v => v.category).sum ≤ 8) (hf : mc + rm2.cells ≤ R.cells ∧ ms + rm2.slots ≤ R.slots) (hdg : decode cc pc = .ok (.invokestatic index, 3))
    (kk : ∀ (v : Option Value) (h' : zz_H), post v h' → zz_J p l e R s m args below meth c g nL Q h' (mc + rm2.cells) (ms + rm2.slots) (pc + 3) lo (v.toList ++ rest)) : zz_J p l e R s m args below meth c g nL Q h mc ms pc lo st := by
  refine zj_run (rest := rest) (aa := As.toArray) (fun H locs ls hR hS hl => ?_) kk
  exact va_runS (As := As) (rest := rest) X.fix hM (va_cwS n X.ts hG rfl rfl rfl hok hrm) ⟨zz_P.blind, fun U hU hW => zz_P.at' X.W hR hS hU hW⟩ rfl hn hl.1 hst (lv_room hw) hdg hf
/-- calls of what only answers: the value, the same heap -/
theorem zj_callVp (X : zz_X l g y cc nL ret p s m args meth c) {a ci : Nat} {fs : List Value} {q : vw_C} {w : Value} (hM : zz_C l g y2 cc2 L2 ret2 rm2 (.ref a :: As) h (fun r h' => r = some w ∧ h' = h)) (ha : h a = some (eO ci fs)) (hc : vwCl[ci]? = some q) (hq : y2.cls = q.1) (hok : zz_ok y2 n) (hG : GoodIn lw_all (wsV y.cls index q.1 y2 (ws_ y2 cc2 L2 ret2))) (hrm : rm2.frames + 1 ≤ R.frames ∧ 8 + (L2 + 11) + rm2.locals ≤ R.locals) (hn : As.length = n) (hst : st = As.reverse ++ .ref a :: rest) (hw : (rest.map fun v => v.category).sum ≤ 8) (hf : mc + rm2.cells ≤ R.cells ∧ ms + rm2.slots ≤ R.slots) (hdg : decode cc pc = .ok (.invokevirtual index, 3))
    (kk : zz_J p l e R s m args below meth c g nL Q h (mc + rm2.cells) (ms + rm2.slots) (pc + 3) lo (w :: rest)) : zz_J p l e R s m args below meth c g nL Q h mc ms pc lo st :=
  zj_callV X hM ha hc hq hok hG hrm hn hst hw hf hdg (fun v h' hp => by obtain ⟨rfl, rfl⟩ := hp; exact kk)
theorem zj_callSp (X : zz_X l g y cc nL ret p s m args meth c) {w : Value} (hM : zz_C l g y2 cc2 L2 ret2 rm2 As h (fun r h' => r = some w ∧ h' = h)) (hok : zz_ok y2 n) (hG : GoodIn lw_all (va_wsS y.cls index y2 (ws_ y2 cc2 L2 ret2))) (hrm : rm2.frames + 1 ≤ R.frames ∧ 8 + (L2 + 11) + rm2.locals ≤ R.locals) (hn : As.length = n) (hst : st = As.reverse ++ rest) (hw : (rest.map fun v => v.category).sum ≤ 8) (hf : mc + rm2.cells ≤ R.cells ∧ ms + rm2.slots ≤ R.slots) (hdg : decode cc pc = .ok (.invokestatic index, 3))
    (kk : zz_J p l e R s m args below meth c g nL Q h (mc + rm2.cells) (ms + rm2.slots) (pc + 3) lo (w :: rest)) : zz_J p l e R s m args below meth c g nL Q h mc ms pc lo st :=
  zj_callS X hM hok hG hrm hn hst hw hf hdg (fun v h' hp => by obtain ⟨rfl, rfl⟩ := hp; exact kk)
end ZC
theorem zj_objInit (X : zz_X l g y cc nL ret p s m args meth c) {a idx : Nat} (hlink : Cond.methodLink y.cls idx Lib.objectInit ∈ lw_all) (hinst : Cond.instanceMethod Lib.objectInit ∈ lw_all) (hcode : Cond.code Lib.objectInit ⟨#[0xb1]⟩ 1 none ∈ lw_all) (hfr : 1 ≤ R.frames) (hlo : (rest.map fun v => v.category).sum ≤ 8 ∧ 20 ≤ R.locals) (hdg : decode cc pc = .ok (.invokespecial idx, 3)) (kk : zz_J p l e R s m args below meth c g nL Q h mc ms (pc + 3) lo rest) : zz_J p l e R s m args below meth c g nL Q h mc ms pc lo (.ref a :: rest) := fun H locs ls hR hS hl =>
  W.objInit X.1 X.2.1 X.own (X.ts _ hlink) (X.ts _ hinst) (X.ts _ hcode) rfl (by rw [X.2.2.1]; exact hl.1) rfl hdg hfr (by have := lv_room (m := m) (pc := pc) (ls := ls) (rest := .ref a :: rest) hlo.1; have := hlo.2; omega) (kk H locs ls hR hS hl)
def zabs (x : Int32) : Int32 := if 0 ≤ x then x else 0 - x
def zmax (x y : Int32) : Int32 := if x < y then y else x
def zmin (x y : Int32) : Int32 := if y < x then y else x
theorem zj_mmax (X : zz_X l g y cc nL ret p s m args meth c) {x z : Int32} {index : Nat} (hlink : Cond.methodLink y.cls index Lib.Math.max.name ∈ lw_all) (hstat : Cond.static Lib.Math.max.name ∈ lw_all) (hini : Cond.initialized "java/lang/Math" ∈ lw_all) (hcode : Cond.code Lib.Math.max.name Lib.Math.max.code 2 (some .int) ∈ lw_all) (hfr : 1 ≤ R.frames ∧ (rest.map fun v => v.category).sum + 13 ≤ R.locals) (hc : mc ≤ R.cells ∧ ms ≤ R.slots) (hdg : decode cc pc = .ok (.invokestatic index, 3)) (k : zz_J p l e R s m args below meth c g nL Q h mc ms (pc + 3) lo (.int (zmax x z) :: rest)) : zz_J p l e R s m args below meth c g nL Q h mc ms pc lo (.int z :: .int x :: rest) := fun H locs ls hR hS hl =>
  va_mmax X.1 X.2.1 (by rw [X.2.2.1]; exact hl.1.symm) X.own (X.ts _ hlink) (X.ts _ hstat) (X.ts _ hini) (X.ts _ hcode) hfr.1 hfr.2 hc.1 hc.2 hdg (k H locs ls hR hS hl)
theorem zj_mmin (X : zz_X l g y cc nL ret p s m args meth c) {x z : Int32} {index : Nat} (hlink : Cond.methodLink y.cls index Lib.Math.min.name ∈ lw_all) (hstat : Cond.static Lib.Math.min.name ∈ lw_all) (hini : Cond.initialized "java/lang/Math" ∈ lw_all) (hcode : Cond.code Lib.Math.min.name Lib.Math.min.code 2 (some .int) ∈ lw_all) (hfr : 1 ≤ R.frames ∧ (rest.map fun v => v.category).sum + 13 ≤ R.locals) (hc : mc ≤ R.cells ∧ ms ≤ R.slots) (hdg : decode cc pc = .ok (.invokestatic index, 3)) (k : zz_J p l e R s m args below meth c g nL Q h mc ms (pc + 3) lo (.int (zmin x z) :: rest)) : zz_J p l e R s m args below meth c g nL Q h mc ms pc lo (.int z :: .int x :: rest) := fun H locs ls hR hS hl =>
  va_mmin X.1 X.2.1 (by rw [X.2.2.1]; exact hl.1.symm) X.own (X.ts _ hlink) (X.ts _ hstat) (X.ts _ hini) (X.ts _ hcode) hfr.1 hfr.2 hc.1 hc.2 hdg (k H locs ls hR hS hl)
theorem zj_mabs (X : zz_X l g y cc nL ret p s m args meth c) {x : Int32} {index : Nat} (hlink : Cond.methodLink y.cls index Lib.Math.abs.name ∈ lw_all) (hstat : Cond.static Lib.Math.abs.name ∈ lw_all) (hini : Cond.initialized "java/lang/Math" ∈ lw_all) (hcode : Cond.code Lib.Math.abs.name Lib.Math.abs.code 1 (some .int) ∈ lw_all) (hfr : 1 ≤ R.frames ∧ (rest.map fun v => v.category).sum + 13 ≤ R.locals) (hc : mc ≤ R.cells ∧ ms ≤ R.slots) (hdg : decode cc pc = .ok (.invokestatic index, 3)) (k : zz_J p l e R s m args below meth c g nL Q h mc ms (pc + 3) lo (.int (zabs x) :: rest)) : zz_J p l e R s m args below meth c g nL Q h mc ms pc lo (.int x :: rest) := fun H locs ls hR hS hl =>
  va_mabs X.1 X.2.1 (by rw [X.2.2.1]; exact hl.1.symm) X.own (X.ts _ hlink) (X.ts _ hstat) (X.ts _ hini) (X.ts _ hcode) hfr.1 hfr.2 hc.1 hc.2 hdg (k H locs ls hR hS hl)
/-! ends -/
section ZE
variable {post : Option Value → zz_H → Prop} {MC MS : Nat}
theorem zz_S.F {t : State} {H : Heap} {locs : List Loc} {v : Option Value} (hR : zz_R g H h) (hS : va_S (gF g) s.heap H locs) (hp : post v h) (ht : t.heap = H) : zz_Q g post args s (.returned v) t := ⟨⟨v, h, rfl, hp, by rw [ht]; exact hR⟩, hS.F ht⟩
theorem zj_iret (X : zz_X l g y cc nL ret p s m args meth c) (hQ : Q = MQ below (zz_Q g post) args s MC MS (gF g)) {v : Int32} (hp : post (some (.int v)) h) (hret : ret = some .int) (hmc : mc ≤ MC) (hms : ms ≤ MS) (hdg : decode cc pc = .ok (.ireturn, 1)) : zz_J p l e R s m args below meth c g nL Q h mc ms pc lo [.int v] := fun H locs ls hR hS hl => by
  subst hQ
  exact W.widen hmc hms (W.iret X.1 X.2.1 (X.2.2.2.1.trans hret) (fun t ht _ => zz_S.F hR hS hp ht) hS.2.2 hdg (hlocks := X.locks))
theorem zj_zret (X : zz_X l g y cc nL ret p s m args meth c) (hQ : Q = MQ below (zz_Q g post) args s MC MS (gF g)) {v : Int32} (hp : post (some (.int v)) h) (hret : ret = some .boolean) (hn : narrow .boolean (.int v) = .int v) (hmc : mc ≤ MC) (hms : ms ≤ MS) (hdg : decode cc pc = .ok (.ireturn, 1)) : zz_J p l e R s m args below meth c g nL Q h mc ms pc lo [.int v] := fun H locs ls hR hS hl => by
  subst hQ
  exact W.widen hmc hms (W.zret X.1 X.2.1 (X.2.2.2.1.trans hret) hn (fun t ht _ => zz_S.F hR hS hp ht) hS.2.2 hdg (hlocks := X.locks))
theorem zj_vret (X : zz_X l g y cc nL ret p s m args meth c) (hQ : Q = MQ below (zz_Q g post) args s MC MS (gF g)) (hp : post none h) (hret : ret = none) (hmc : mc ≤ MC) (hms : ms ≤ MS) (hdg : decode cc pc = .ok (.return_, 1)) : zz_J p l e R s m args below meth c g nL Q h mc ms pc lo [] := fun H locs ls hR hS hl => by
  subst hQ
  exact W.widen hmc hms (W.vret X.1 X.2.1 (X.2.2.2.1.trans hret) (fun t ht _ => zz_S.F hR hS hp ht) hS.2.2 hdg (hlocks := X.locks))
theorem zj_fret (X : zz_X l g y cc nL ret p s m args meth c) (hQ : Q = MQ below (zz_Q g post) args s MC MS (gF g)) {v : UInt32} (hp : post (some (.float v)) h) (hret : ret = some .float) (hmc : mc ≤ MC) (hms : ms ≤ MS) (hdg : decode cc pc = .ok (.freturn, 1)) : zz_J p l e R s m args below meth c g nL Q h mc ms pc lo [.float v] := fun H locs ls hR hS hl => by
  subst hQ
  exact W.widen hmc hms (W.fret X.1 X.2.1 (X.2.2.2.1.trans hret) (fun t ht _ => zz_S.F hR hS hp ht) hS.2.2 hdg (hlocks := X.locks))
theorem zj_dret (X : zz_X l g y cc nL ret p s m args meth c) (hQ : Q = MQ below (zz_Q g post) args s MC MS (gF g)) {v : UInt64} (hp : post (some (.double v)) h) (hret : ret = some .double) (hmc : mc ≤ MC) (hms : ms ≤ MS) (hdg : decode cc pc = .ok (.dreturn, 1)) : zz_J p l e R s m args below meth c g nL Q h mc ms pc lo [.double v] := fun H locs ls hR hS hl => by
  subst hQ
  exact W.widen hmc hms (W.dret X.1 X.2.1 (X.2.2.2.1.trans hret) (fun t ht _ => zz_S.F hR hS hp ht) hS.2.2 hdg (hlocks := X.locks))
theorem zj_aret (X : zz_X l g y cc nL ret p s m args meth c) (hQ : Q = MQ below (zz_Q g post) args s MC MS (gF g)) {r : Option Nat} {C : FieldType} (hp : post (some (va_rf r)) h) (hret : ret = some C) (hC : (∃ n, C = .object n) ∨ ∃ t, C = .array t) (hmc : mc ≤ MC) (hms : ms ≤ MS) (hdg : decode cc pc = .ok (.areturn, 1)) : zz_J p l e R s m args below meth c g nL Q h mc ms pc lo [va_rf r] := fun H locs ls hR hS hl => by
  subst hQ
  exact W.widen hmc hms (W.aret X.1 X.2.1 (X.2.2.2.1.trans hret) hC (by cases r; exact Or.inl rfl; exact Or.inr ⟨_, rfl⟩) (fun t ht _ => zz_S.F hR hS hp ht) hS.2.2 hdg (hlocks := X.locks))
end ZE
end ZJ
theorem zz_C.of {l : Launch} {g : zz_G} {y : MethodName} {cc : ByteArray} {maxL : Nat} {ret : Option FieldType} {rm : Room} {av : List Value} {h : zz_H} {post : Option Value → zz_H → Prop} (hy : plainName y.cls = true) (hlv : (lg_sl av).length ≤ maxL)
    (body : ∀ (p : Program) (e : Env) (s : State) (m : MethodId) (args : Array Value) (below : List Frame) (meth : Method) (c : Code), zz_X l g y cc maxL ret p s m args meth c → ∀ Q, Q = MQ below (zz_Q g post) args s rm.cells rm.slots (gF g) → zz_J p l e rm s m args below meth c g maxL Q h 0 0 0 (lv_args 0 av) []) : zz_C l g y cc maxL ret rm av h post := by
  refine Met.ofW (cc := cc) (maxL := maxL) (ret := ret) hy rfl ?_
  intro p e s m args below meth c s₁ B hml hv
  obtain ⟨rfl, hW, hR⟩ := hv
  have hts := atoms_spec (ws := ws_ y cc maxL ret) B.pre
  have hts : ∀ w ∈ lw_all, w.before _ s = true := fun w h => hts w (List.mem_cons_of_mem _ h)
  have X : zz_X l g y cc maxL ret p s m av.toArray meth c := ⟨B.exec, B.bytes, hml, B.returns, hts, findClass_of_methodNamed B.named, B.notSynchronized, (name_of_methodNamed B.named B.method).1, hW⟩
  have hl := lv_entry av (n := maxL) hlv
  rw [lg_entry_eq]
  exact body p e s m _ below meth c X _ rfl s.heap [] _ hR va_S.rf hl

