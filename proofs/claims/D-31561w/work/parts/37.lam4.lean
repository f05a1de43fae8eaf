set_option maxRecDepth 100000
/-! LAMBDAS: rows -/
theorem lam_i15 {α : Type} {x : Array Nat} {f : Nat → Nat → Nat → Option α} {r : α} (h : Lambda.shapeOf?.match_15 (fun _ => Option α) x f (fun _ => none) = some r) : ∃ a0 a1 a2, f a0 a1 a2 = some r := by
  obtain ⟨L⟩ := x
  rcases L with _ | ⟨a, _ | ⟨b, _ | ⟨c, _ | ⟨d, L⟩⟩⟩⟩
  · cases h
  · cases h
  · cases h
  · exact ⟨a, b, c, h⟩
  · cases h
theorem lam_site {cf : ClassFile} {index : Nat} {σ : Lambda.Shape} (h : Lambda.shapeOf? cf index = some σ) :
    ∃ (b nt : Nat) (desc : String) (site : MethodDescriptor), cf.constantPool[index]? = some (.invokeDynamic b nt) ∧ cf.constantPool.nameAndType? nt = some (σ.name, desc) ∧ parseMethodDescriptor desc = some site ∧ site.parameters = σ.captured := by
  unfold Lambda.shapeOf? at h
  split at h
  · rename_i b nt hc
    obtain ⟨entries, -, h⟩ := Option.bind_eq_some_iff.mp h
    obtain ⟨bm, -, h⟩ := Option.bind_eq_some_iff.mp h
    split at h
    · obtain ⟨u, -, h⟩ := Option.bind_eq_some_iff.mp h
      obtain ⟨a0, a1, a2, h⟩ := lam_i15 h
      · split at h
        · split at h
          · split at h
            · obtain ⟨⟨name, desc⟩, hnt, h⟩ := Option.bind_eq_some_iff.mp h
              obtain ⟨site, hsite, h⟩ := Option.bind_eq_some_iff.mp h
              dsimp only at h hsite
              split at h
              · obtain ⟨⟨implClass, implName, implDesc, implItf⟩, -, h⟩ := Option.bind_eq_some_iff.mp h
                obtain ⟨x1, -, h⟩ := Option.bind_eq_some_iff.mp h
                obtain ⟨x2, -, h⟩ := Option.bind_eq_some_iff.mp h
                obtain ⟨x3, -, h⟩ := Option.bind_eq_some_iff.mp h
                obtain ⟨x4, -, h⟩ := Option.bind_eq_some_iff.mp h
                obtain ⟨x5, -, h⟩ := Option.bind_eq_some_iff.mp h
                cases h
                exact ⟨b, nt, desc, site, hc, hnt, hsite, rfl⟩
              · cases h
            · cases h
          · cases h
        · cases h
    · cases h
  · cases h

section ZL
variable {p : Program} {l : Launch} {e : Env} {R : Room} {s : State} {m : MethodId} {args : Array Value} {below : List Frame} {meth : Method} {c : Code} {g : zz_G} {y : MethodName} {cc : ByteArray} {nL : Nat} {ret : Option FieldType} {Q : State → Prop} {h : zz_H} {mc ms pc : Nat} {lo : List (Nat × Value)} {rest : List Value}
/-- a site that captures nothing -/
theorem zj_idc (X : zz_X l g y cc nL ret p s m args meth c) (hn : s.methodNamed? y = some m) {ix : Nat} {σ : Lambda.Shape} {cK : ClassId} {A : Addr} (hLs : zz_Ls s y pc ix σ cK (some A)) (hlo : (rest.map fun v => v.category).sum + 3072 ≤ R.locals) (hdg : decode cc pc = .ok (.invokedynamic ix, 5)) (k : zz_J p l e R s m args below meth c g nL Q h mc ms (pc + 5) lo (.ref A :: rest)) : zz_J p l e R s m args below meth c g nL Q h mc ms pc lo rest := fun H locs ls hR hS hl => by
  obtain ⟨m0, kd, cf, i0, p0, lk0, hm0, hkd, hcf, hsh, hfind, hmade, hcall, hl0⟩ := hLs
  cases hn.symm.trans hm0
  obtain ⟨a0, rfl, ha, -⟩ | ⟨-, hz, -⟩ := hl0
  · cases ha
    intro T hT X1
    obtain ⟨t, st, q⟩ := k H locs ls hR hS hl T hT X1
    refine ⟨t, X1.lambdaConstant X.1 (g := F0 m pc ls rest) rfl (by rw [X.2.2.1]; exact hl.1) (by rw [X.2.1]; exact hdg) hkd hfind ?_ st, q⟩
    rw [X1.admits.platform]
    show 2 * 0 + (rest.map fun v => v.category).sum + 3072 ≤ R.locals
    omega
  · cases hz
/-- the site that captures a work and an int -/
theorem zj_idm (X : zz_X l g y cc nL ret p s m args meth c) (hn : s.methodNamed? y = some m) {ix w : Nat} {mid : Int32} (hLs : zz_Ls s y pc ix (zz_sh 4) (gL g 4) none) (hyn : y.cls = "Peerpanel$Work") (hobj0 : Cond.instantiable "java/lang/Object" 0 ∈ lw_all) (hlo : (rest.map fun v => v.category).sum + 3080 ≤ R.locals) (hcells : mc + 1 ≤ R.cells) (hslots : ms + 2 ≤ R.slots) (hdg : decode cc pc = .ok (.invokedynamic ix, 5)) (k : ∀ q : Nat, h q = none → zz_J p l e R s m args below meth c g nL Q (zz_up h q (eM 4 [.ref w, .int mid])) (mc + 1) (ms + 2) (pc + 5) lo (.ref q :: rest)) : zz_J p l e R s m args below meth c g nL Q h mc ms pc lo (.int mid :: .ref w :: rest) := fun H locs ls hR hS hl => by
  obtain ⟨m0, kd, cf, i0, p0, lk0, hm0, hkd, hcf, hsh, hfind, hmade, hcall, hl0⟩ := hLs
  cases hn.symm.trans hm0
  obtain ⟨a0, -, hz, -⟩ | ⟨rfl, -, -⟩ := hl0
  · cases hz
  intro T hT X1
  obtain ⟨kd', hkd', hnd⟩ := className_of_methodNamed hm0
  cases hkd.symm.trans hkd'
  obtain ⟨cO, kO, hcO, hkO, -, -, -, hO0⟩ := Cond.instantiable_spec (X.ts _ hobj0)
  obtain ⟨kh, f0, f1, hkh, hty, hkind, hhid, -⟩ := lam_fields hkd (hnd.trans hyn) hmade hcO hkO hO0
  obtain ⟨bsm, nt, desc, site, hc, hnt, hsite, hpar⟩ := lam_site hsh
  have hslE : ((kh.instanceTypes.toList.zip [(.ref w : Value), (.int mid : Value)]).map fun (t, v) => narrow t v) = [.ref w, .int mid] := by
    rw [hty]
    rfl
  obtain ⟨X2, st1⟩ := X1.lambdaMakes X.1 (g := F0 m pc ls (.int mid :: .ref w :: rest)) rfl (by rw [X.2.2.1]; exact hl.1) (by rw [X.2.1]; exact hdg) (vals := [.ref w, .int mid]) (rest := rest) hkd hfind hcf hc hnt (parseLong_of_parse hsite) (by rw [hpar]; rfl) rfl hkh
    (by rw [X1.admits.platform]; show 2 * 0 + (1 + (1 + (rest.map fun v => v.category).sum)) + 3072 ≤ R.locals; omega) hcells (by rw [hslE]; exact hslots)
    (fun i v hv => by
      rw [hslE] at hv
      match i, hv with
      | 0, hv => simp at hv; subst hv; simp [State.fitsSlot, State.slotType?, hkh, hkind, hty, fits]
      | 1, hv => simp at hv; subst hv; simp [State.fitsSlot, State.slotType?, hkh, hkind, hty, fits]
      | k + 2, hv => simp at hv)
  rw [hslE] at X2 st1
  have hz : gZ g ≤ H.size := Nat.le_trans X.W.2.2 hS.1
  have hTs : T.heap.size = H.size := by rw [hT]
  have hnh : (T.pushCell { cls := gL g 4, slots := [Value.ref w, Value.int mid].toArray, vm := .none }).heap = H.push { cls := gL g 4, slots := [Value.ref w, Value.int mid].toArray, vm := .none } := by rw [← hT]; rfl
  have o1 : ∀ q : Nat, q < H.size → (H.push ({ cls := gL g 4, slots := [Value.ref w, Value.int mid].toArray, vm := .none } : Cell))[q]? = H[q]? := fun q hq => by rw [Array.getElem?_push, if_neg (Nat.ne_of_lt hq)]
  obtain ⟨t, st2, q⟩ := k H.size hR.new _ locs ls (hR.push hz o1 (show (H.push _)[H.size]? = some _ from Array.getElem?_push_size)) ⟨Nat.le_trans hS.1 (by rw [Array.size_push]; omega), fun x h1 h2 => (o1 x (Nat.lt_of_lt_of_le h1 hS.1)).trans (hS.2.1 x h1 h2), hS.2.2⟩ hl _ hnh X2
  rw [← hTs] at st2
  exact ⟨t, st1 t st2, q⟩
end ZL
