/-! where lambda objects are made -/
set_option maxRecDepth 100000
/-- a site of the method x, linked so -/
def SF (x : MethodName) (pc index : Nat) (σ : Lambda.Shape) (cK : ClassId) (lk : Linked) (U : State) : Prop :=
  ∃ (m : MethodId) (k : Class) (cf : ClassFile) (i0 p0 bsm nt : Nat) (name desc : String) (rt : Option FieldType), U.methodNamed? x = some m ∧ U.vm.classes[m.cls]? = some k ∧ k.cf = some cf ∧ (k.callSites.find? fun y => y.1 == m.idx && y.2.1 == pc) = some (i0, p0, lk) ∧
    cf.constantPool[index]? = some (.invokeDynamic bsm nt) ∧ cf.constantPool.nameAndType? nt = some (name, desc) ∧ parseLongMethodDescriptor desc = some ⟨σ.captured, rt⟩ ∧ Lam σ cK U
theorem SF.moved {x : MethodName} {pc index : Nat} {σ : Lambda.Shape} {cK : ClassId} {lk : Linked} {u U : State} (hW : u.WarmedH U.vm) (h : SF x pc index σ cK lk u) : SF x pc index σ cK lk U := by
  obtain ⟨m, k, cf, i0, p0, bsm, nt, name, desc, rt, h1, h2, h3, h4, h5, h6, h7, h8⟩ := h
  obtain ⟨k', hk', he⟩ := hW.alike.2.2 _ _ h2
  have hm' : U.methodNamed? x = some m := by
    have := State.methodNamed?_setVm (s := u) hW.alike x
    rw [h1] at this
    exact this
  exact ⟨m, k', cf, i0, p0, bsm, nt, name, desc, rt, hm', hk', by rw [he]; exact h3, by rw [he]; exact h4, h5, h6, h7, Lam.moved hW h8⟩
theorem arr3 {α : Type} (f : Nat → Nat → Nat → Option α) (arr : Array Nat) (r : α) (h : Lambda.shapeOf?.match_15 (motive := fun _ => Option α) arr f (fun _ => none) = some r) : ∃ a0 a1 a2, f a0 a1 a2 = some r := by
  obtain ⟨l⟩ := arr
  rcases l with _ | ⟨a0, _ | ⟨a1, _ | ⟨a2, _ | ⟨a3, l⟩⟩⟩⟩
  · cases (show (none : Option α) = some r from h)
  · cases (show (none : Option α) = some r from h)
  · cases (show (none : Option α) = some r from h)
  · exact ⟨a0, a1, a2, h⟩
  · cases (show (none : Option α) = some r from h)
theorem SF.of {x : MethodName} {pc index : Nat} {σ : Lambda.Shape} {args : Array Value} {U : State} (h : (Cond.lambdaSite x pc index σ).before args U = true) (hn : ∀ (m : MethodId) (k : Class), U.methodNamed? x = some m → U.vm.classes[m.cls]? = some k → k.name = "WholePacks")
    (hO : ∀ o ok, U.vm.findClass "java/lang/Object" = some o → U.vm.classes[o]? = some ok → ok.instanceTypes.size = 0) :
    ∃ (cK : ClassId) (lk : Linked), SF x pc index σ cK lk U ∧ ((∃ a cell, lk = .constant a ∧ σ.captured = [] ∧ U.heap[a]? = some cell ∧ cell.cls = cK ∧ cell.vm = .none ∧ cell.slots = #[]) ∨ (lk = .makes cK ∧ σ.captured ≠ [])) := by
  obtain ⟨cK, one, hat⟩ := Cond.lambdaSite_spec h
  obtain ⟨m, k, cf, i0, p0, lk, hm, hk, hcf, hsh, -, hfind, hmade, hcan, hlk⟩ := State.lambdaAt?_spec hat
  have hL : Lam σ cK U := ⟨m.cls, k, hk, hn m k hm hk, hmade, hcan, hO⟩
  have hshape : ∃ bsm nt name desc rt, cf.constantPool[index]? = some (.invokeDynamic bsm nt) ∧ cf.constantPool.nameAndType? nt = some (name, desc) ∧ parseLongMethodDescriptor desc = some ⟨σ.captured, rt⟩ := by
    unfold Lambda.shapeOf? at hsh
    split at hsh
    · rename_i b nt hci
      obtain ⟨entries, -, hsh⟩ := Option.bind_eq_some_iff.mp hsh
      obtain ⟨bm, -, hsh⟩ := Option.bind_eq_some_iff.mp hsh
      split at hsh
      · obtain ⟨-, -, hsh⟩ := Option.bind_eq_some_iff.mp hsh
        obtain ⟨a0, a1, a2, hsh⟩ := arr3 _ _ _ hsh
        split at hsh
        · split at hsh
          · split at hsh
            · obtain ⟨nd, hnd, hsh⟩ := Option.bind_eq_some_iff.mp hsh
              obtain ⟨site, hsite, hsh⟩ := Option.bind_eq_some_iff.mp hsh
              split at hsh
              · obtain ⟨mb, -, hsh⟩ := Option.bind_eq_some_iff.mp hsh
                simp only [Option.bind_eq_bind, Option.bind_eq_some_iff, Option.pure_def, Option.some.injEq] at hsh
                refine ⟨b, nt, nd.1, nd.2, site.returnType, hci, hnd, ?_⟩
                have hcap : σ.captured = site.parameters := by
                  obtain ⟨x1, -, x2, -, hsh⟩ := hsh
                  obtain ⟨x3, -, x4, -, x5, -, rfl⟩ := hsh
                  rfl
                rw [hcap]
                exact parseLong_of_parse hsite
              · cases hsh
            · cases hsh
          · cases hsh
        · cases hsh
      · cases hsh
    · cases hsh
  obtain ⟨bsm, nt, name, desc, rt, h5, h6, h7⟩ := hshape
  refine ⟨cK, lk, ⟨m, k, cf, i0, p0, bsm, nt, name, desc, rt, hm, hk, hcf, hfind, h5, h6, h7, hL⟩, ?_⟩
  rcases hlk with ⟨a, cell, h1, -, h3, h4, h5, h6, h7⟩ | ⟨h1, -, h3⟩
  · exact Or.inl ⟨a, cell, h1, h3, h4, h5, h6, h7⟩
  · exact Or.inr ⟨h1, h3⟩
section LMADE
variable {p : Program} {l : Launch} {e : Env} {R : Room} {s : State} {m : MethodId} {args : Array Value} {below : List Frame} {meth : Method} {c : Code} {H : Heap} {locs : List Loc} {cells slots : Nat} {Q : State → Prop}
variable {cc : ByteArray} {pc nL index : Nat} {ls : Array Slot} {rest st0 : List Value} {A0 : Nat → Prop} {H0 : Heap}
variable {σ : Lambda.Shape} {D : ClassFile} {fw : Method} {lay0 : Array Field × Array FieldType × Array FieldType} {fbytes : ByteArray} {fmaxL : Nat} {fret : Option FieldType} {iM iC iN sC : Nat} {tys : Array FieldType} {fl : List (Nat × Nat)} {cK : ClassId}
theorem rk_made {x : MethodName} {vals : List Value} {h : Nat} (hx : p.tables.exec = Jvm.exec) (hb : c.code = cc) (hml : c.maxLocals = nL) (hls : ls.size = nL) (hnm : s.methodNamed? x = some m) (hS : va_S A0 H0 H locs) (hSF : SF x pc index σ cK (.makes cK) s) (hF : LamF σ D fw lay0 fbytes fmaxL fret iM iC iN sC tys fl) (hn : vals.length = σ.captured.length) (hnar : (tys.toList.zip vals).map (fun (t, v) => narrow t v) = vals) (hfit : ∀ (i : Nat) (v : Value), vals[i]? = some v → ∃ t, tys[i]? = some t ∧ fits t v = true) (hst : st0 = vals.reverse ++ rest) (hw : (st0.map fun v => v.category).sum + 3072 ≤ R.locals) (hz : H.size = h) (hcells : cells + 1 ≤ R.cells) (hslots : slots + vals.length ≤ R.slots) (hdg : decode cc pc = .ok (.invokedynamic index, 5))
    (kk : ∀ H1 : Heap, LC H1 h cK vals → va_S A0 H0 H1 locs → H1.size = h + 1 → (∀ z, z < h → H1[z]? = H[z]?) → W p l e R s m args below meth c H1 locs (cells + 1) (slots + vals.length) Q (F0 m (pc + 5) ls (.ref h :: rest))) : W p l e R s m args below meth c H locs cells slots Q (F0 m pc ls st0) := by
  intro T hT X
  obtain ⟨m', k, cf, i0, p0, bsm, nt, name, desc, rt, h1, h2, h3, h4, h5, h6, h7, h8⟩ := hSF
  cases hnm.symm.trans h1
  obtain ⟨kK, tk, file, methk, ck, toy, iface, tB, found, ⟨hk, -, -, -⟩, -, -, -, ⟨hty, hkind⟩, -⟩ := Lam.facts hF h8
  have hsl : ((kK.instanceTypes.toList.zip vals).map fun (t, v) => narrow t v) = vals := by rw [hty]; exact hnar
  obtain ⟨X₁, st1⟩ := X.lambdaMakes hx (g := F0 m pc ls st0) rfl (hls.trans hml.symm) (by rw [hb]; exact hdg) (vals := vals) (rest := rest) h2 h4 h3 h5 h6 h7 hn hst hk
    (by rw [X.admits.platform]; show 2 * 0 + (st0.map fun v => v.category).sum + 3072 ≤ R.locals; omega) hcells (by rw [hsl]; exact hslots)
    (fun i v hv => by
      rw [hsl] at hv
      obtain ⟨t, ht, hf⟩ := hfit i v (by simpa using hv)
      simp [State.fitsSlot, State.slotType?, hk, hkind, hty, ht, hf])
  rw [hsl] at X₁ st1
  have e0 : (T.pushCell { cls := cK, slots := vals.toArray, vm := .none }).heap = H.push { cls := cK, slots := vals.toArray, vm := .none } := by rw [← hT]; rfl
  have e1 : T.heap.size = h := by rw [hT]; exact hz
  rw [e1] at st1
  generalize hH1 : H.push ({ cls := cK, slots := vals.toArray, vm := .none } : Cell) = H1 at e0
  have z1 : H1.size = h + 1 := by rw [← hH1, Array.size_push, hz]
  have e2 : H1[h]? = some { cls := cK, slots := vals.toArray, vm := .none } := by rw [← hH1, ← hz, Array.getElem?_push_size]
  have o1 : ∀ q : Nat, q < h → H1[q]? = H[q]? := fun q hq => by rw [← hH1, Array.getElem?_push, if_neg (by omega)]
  obtain ⟨t, a1, b1⟩ := kk H1 e2 ⟨Nat.le_trans hS.1 (by omega), fun x h1 h2 => (o1 x (by have := hS.1; omega)).trans (hS.2.1 x h1 h2), hS.2.2⟩ z1 o1 _ e0 (by simpa using X₁)
  exact ⟨t, st1 _ a1, b1⟩
theorem rk_const {x : MethodName} {a : Addr} (hx : p.tables.exec = Jvm.exec) (hb : c.code = cc) (hml : c.maxLocals = nL) (hls : ls.size = nL) (hnm : s.methodNamed? x = some m) (hSF : SF x pc index σ cK (.constant a) s) (hw : (rest.map fun v => v.category).sum + 3072 ≤ R.locals) (hdg : decode cc pc = .ok (.invokedynamic index, 5))
    (kk : W p l e R s m args below meth c H locs cells slots Q (F0 m (pc + 5) ls (.ref a :: rest))) : W p l e R s m args below meth c H locs cells slots Q (F0 m pc ls rest) := by
  intro T hT X
  obtain ⟨m', k, cf, i0, p0, bsm, nt, name, desc, rt, h1, h2, h3, h4, h5, h6, h7, h8⟩ := hSF
  cases hnm.symm.trans h1
  obtain ⟨t, a1, b1⟩ := kk T hT X
  exact ⟨t, X.lambdaConstant hx (g := F0 m pc ls rest) rfl (hls.trans hml.symm) (by rw [hb]; exact hdg) h2 h4 (by rw [X.admits.platform]; show 2 * 0 + (rest.map fun v => v.category).sum + 3072 ≤ R.locals; omega) a1, b1⟩
end LMADE
