/-! LAMBDAS: objects of classes that the machine made itself -/
set_option maxRecDepth 100000
/-- cK is a class made for the shape σ, for a site of WholePacks -/
def Lam (σ : Lambda.Shape) (cK : ClassId) (U : State) : Prop :=
  ∃ (d : ClassId) (dk : Class), U.vm.classes[d]? = some dk ∧ dk.name = "WholePacks" ∧ Lambda.isMade { classPath := fun _ => none } U.vm d σ cK = true ∧ U.lambdaCallable σ cK = true ∧ (∀ o ok, U.vm.findClass "java/lang/Object" = some o → U.vm.classes[o]? = some ok → ok.instanceTypes.size = 0)
theorem Lam.moved {σ : Lambda.Shape} {cK : ClassId} {u U : State} (hW : u.WarmedH U.vm) (h : Lam σ cK u) : Lam σ cK U := by
  obtain ⟨d, dk, h1, h2, h3, h4, h5⟩ := h
  obtain ⟨dk', h1', e2⟩ := hW.alike.2.2 _ _ h1
  refine ⟨d, dk', h1', by rw [e2]; exact h2, Lambda.isMade_warmer hW h3, ?_, fun o ok ho hok => ?_⟩
  · have hA := hW.alike
    simp only [State.lambdaCallable, hA.findClass, hA.assignable, hA.superclasses, hA.declaredIn] at h4 ⊢
    exact h4
  · rw [hW.alike.findClass] at ho
    obtain ⟨ok0, hok0⟩ : ∃ ok0, u.vm.classes[o]? = some ok0 := by
      cases hq : u.vm.classes[o]? with
      | none => rw [hW.alike.none hq] at hok; cases hok
      | some x => exact ⟨x, rfl⟩
    obtain ⟨ok', hok', e3⟩ := hW.alike.2.2 _ _ hok0
    cases hok.symm.trans hok'
    rw [e3]
    exact h5 o ok0 ho hok0
/-- what a shape's class file holds: found by counting -/
def LamF (σ : Lambda.Shape) (D : ClassFile) (fw : Method) (lay0 : Array Field × Array FieldType × Array FieldType) (bytes : ByteArray) (maxL : Nat) (ret : Option FieldType) (iM iC iN sC : Nat) (tys : Array FieldType) (fl : List (Nat × Nat)) : Prop :=
  (σ.file "WholePacks" = some D ∧ (∀ ms, layoutMethods D = some ms → ms[1]? = some fw) ∧ layoutFields D 0 = some lay0 ∧ fw.code.map (fun c => (c.code.data, c.maxLocals)) = some (bytes.data, maxL) ∧ (fw.accessFlags, fw.sig.returnType) = (0x0001, ret)) ∧
  (D.constantPool[iM]? = some (.methodref iC iN) ∧ D.constantPool.className? iC = some "WholePacks" ∧ D.constantPool.nameAndType? iN = some (σ.implName, σ.implDesc.toString)) ∧ (D.constantPool[iC]? = some (.class_ sC) ∧ D.constantPool.string? sC = some "WholePacks" ∧ iC ≠ D.thisClass) ∧
  (σ.implClass = "WholePacks" ∧ σ.implItf = false ∧ lay0.2.1 = tys) ∧
  (∀ z ∈ fl, ∃ ci nt nm desc, D.constantPool[z.1]? = some (.fieldref ci nt) ∧ D.constantPool.nameAndType? nt = some (nm, desc) ∧ lay0.1.findIdx? (·.name == nm) = some z.2 ∧ (lay0.1[z.2]?).map (fun f => (f.isStatic, f.slot)) = some (false, z.2))
theorem Lam.facts {σ : Lambda.Shape} {D : ClassFile} {fw : Method} {lay0 : Array Field × Array FieldType × Array FieldType} {bytes : ByteArray} {maxL : Nat} {ret : Option FieldType} {iM iC iN sC : Nat} {tys : Array FieldType} {fl : List (Nat × Nat)} {cK : ClassId} {U : State}
    (hF : LamF σ D fw lay0 bytes maxL ret iM iC iN sC tys fl) (h : Lam σ cK U) :
    ∃ (k tk : Class) (file : ClassFile) (methk : Method) (ck : Code) (toy iface : ClassId) (t found : MethodId),
      (U.vm.classes[cK]? = some k ∧ k.name = "WholePacks$$Lambda" ∧ k.cf = some file ∧ file.constantPool = D.constantPool) ∧
      (U.vm.method? ⟨cK, 1⟩ = some methk ∧ methk.code = some ck ∧ ck.code = bytes ∧ ck.maxLocals = maxL ∧ methk.locks = false ∧ methk.accessFlags = 0x0001 ∧ methk.sig.returnType = ret) ∧
      (U.vm.findClass "WholePacks" = some toy ∧ U.vm.classes[toy]? = some tk ∧ tk.isInterface = false ∧ ((methodIn toy σ.implName σ.implDesc.toString false none).ask { classPath := fun _ => none } U.vm).1 = .ok t ∧ U.vm.methodReady cK iM t ∧ U.vm.classReady cK iC toy) ∧
      (∀ z ∈ fl, ∃ f : Field, U.vm.fieldReady cK z.1 cK f ∧ f.isStatic = false ∧ f.slot = z.2) ∧ (k.instanceTypes = tys ∧ k.kind = .ordinary) ∧
      (U.vm.findClass σ.iface = some iface ∧ ((methodIn iface σ.name σ.sam.toString true none).ask { classPath := fun _ => none } U.vm).1 = .ok found ∧ selectMethod {} U.vm cK found = .method ⟨cK, 1⟩ ∧ U.vm.assignable cK iface = true ∧
        ((cK :: U.vm.superclasses cK).any fun k => (declaredIn U.vm σ.name σ.sam.toString k).any fun (_, x) => x.isPrivate || x.isStatic) = false) := by
  obtain ⟨d, dk, hd, hname, hmade, hcan, hO⟩ := h
  obtain ⟨⟨f1, f2, f3, f4, f5⟩, eM, eC, ⟨f6, f7, f8⟩, eF⟩ := hF
  obtain ⟨dk', k, ok, tk, file, cf, object, iface, toy, lay, methods, target, found, hd', hk, hfile, hcf, hobj, hif, hok, hlay, hms, ht, htk, hg, hfound, hrec, -, -, -, hitf, hpool, hmeth, hfields, hty, hres, hsel⟩ := Lambda.isMade_spec hmade
  cases hd.symm.trans hd'
  rw [hname, f1] at hcf
  cases hcf
  have hok0 : ok.instanceTypes = #[] := Array.eq_empty_of_size_eq_zero (hO object ok hobj hok)
  rw [hO object ok hobj hok, f3] at hlay
  cases hlay
  obtain ⟨b, hb, hsame⟩ := hmeth 1 fw (f2 methods hms)
  simp only [Lambda.sameMethod, Bool.and_eq_true, decide_eq_true_eq] at hsame
  obtain ⟨⟨hn, -, hsig, hfl⟩, hcode⟩ := hsame
  simp only [Prod.mk.injEq] at f5
  obtain ⟨i2, hi2, hasg, hway⟩ := State.lambdaCallable_spec hcan
  cases hif.symm.trans hi2
  rw [f6] at ht
  rw [f7] at hitf
  rw [hitf] at hg
  cases hfc : fw.code with
  | none => rw [hfc] at f4; cases f4
  | some x =>
    cases hbc : b.code with
    | none => simp [hfc, hbc] at hcode
    | some y =>
      simp only [hfc, hbc, Bool.and_eq_true, decide_eq_true_eq] at hcode
      simp only [hfc, Option.map_some, Option.some.injEq, Prod.mk.injEq] at f4
      refine ⟨k, tk, file, b, y, toy, iface, target, found, ⟨hk, by rw [hrec.1, hname]; rfl, hfile, hpool.2.1⟩, ⟨by simp [Vm.method?, hk, hb], hbc, ?_, by rw [← hcode.1.1.1.1.2.1]; exact f4.2, ?_, by rw [← hfl]; exact f5.1, by rw [← hsig]; exact f5.2⟩, ⟨ht, htk, hitf, hg,
        ⟨k, hk, hres iM _ (Lambda.resolvedOf_method eM.1 eM.2.1 ht htk eM.2.2 (by rw [hitf]; exact hg))⟩, ⟨k, hk, hres iC _ (Lambda.resolvedOf_class eC.1 eC.2.2 eC.2.1 ht)⟩⟩, fun z hz => ?_, ⟨by rw [hty.1, hok0, f8]; simp, hrec.2.1⟩, hif, hfound, hsel, hasg, hway⟩
      · rw [← hcode.1.1.1.1.2.2]
        exact ByteArray.ext f4.1
      · simp [Method.locks, Method.isSynchronized, ← hfl, f5.1, hasFlag, Acc.synchronized]
      · obtain ⟨ci, nt, nm, desc, g1, g2, g3, g4⟩ := eF z hz
        obtain ⟨g0, hg0, hp0⟩ := Option.map_eq_some_iff.mp g4
        simp only [Prod.mk.injEq] at hp0
        exact ⟨g0, ⟨k, z.2, k, hk, hres z.1 _ (Lambda.resolvedOf_field g1 g2 g3), hk, hfields z.2 _ hg0⟩, hp0.1, hp0.2⟩
/-! inside such a class's method -/
def LC (H : Heap) (q : Nat) (cK : ClassId) (vs : List Value) : Prop := H[q]? = some { cls := cK, slots := vs.toArray, vm := .none }
/-- the same, of an object that may have been locked or asked for its hash -/
def LQ (H : Heap) (q : Nat) (cK : ClassId) (vs : List Value) : Prop := ∃ mo ha, H[q]? = some { cls := cK, slots := vs.toArray, vm := .none, monitor := mo, hash := ha }
theorem LC.q {H : Heap} {q : Nat} {cK : ClassId} {vs : List Value} (h : LC H q cK vs) : LQ H q cK vs := ⟨_, _, h⟩
theorem all_at {args a' : Array Value} {s T : State} (hts : ∀ w ∈ lw_all, w.before args s = true) (hW : s.WarmedH T.vm) {w : Cond} (hw : w ∈ lw_all) : w.before a' T = true :=
  pay_in hts (lw_good (ws := [w]) (fun z hz => by rw [List.mem_singleton.mp hz]; exact hw)) w List.mem_cons_self a' T hW
section FWD
variable {p : Program} {l : Launch} {e : Env} {R : Room} {s : State} {m : MethodId} {args : Array Value} {below : List Frame} {meth : Method} {c : Code} {H : Heap} {locs : List Loc} {cells slots : Nat} {Q : State → Prop}
variable {cc bytes : ByteArray} {pc nL maxL index n fr lo mc ms : Nat} {ls : Array Slot} {rest st0 As : List Value} {G : Gv} {A A0 : Nat → Prop} {H0 : Heap} {y : MethodName} {ret : Option FieldType} {b : Nat} {Pre : Heap → Prop} {ov : Option Value} {FP : Nat → Prop} {Post : Option Value → Heap → Prop}
variable {σ : Lambda.Shape} {D : ClassFile} {fw : Method} {lay0 : Array Field × Array FieldType × Array FieldType} {fbytes : ByteArray} {fmaxL : Nat} {fret : Option FieldType} {iM iC iN sC : Nat} {tys : Array FieldType} {fl : List (Nat × Nat)} {cK : ClassId}
theorem rk_fwG {q iF j : Nat} {vs : List Value} {x : Value} (hx : p.tables.exec = Jvm.exec) (hb : c.code = cc) (hm : m.cls = cK) (hF : LamF σ D fw lay0 fbytes fmaxL fret iM iC iN sC tys fl) (hL : Lam σ cK s) (hz : (iF, j) ∈ fl) (hC : LC H q cK vs) (hv : vs[j]? = some x) (hdg : decode cc pc = .ok (.getfield iF, 3))
    (kk : W p l e R s m args below meth c H locs cells slots Q (F0 m (pc + 3) ls (x :: rest))) : W p l e R s m args below meth c H locs cells slots Q (F0 m pc ls (.ref q :: rest)) := by
  intro T hT X
  obtain ⟨t, st, hq⟩ := kk T hT X
  obtain ⟨k, tk, file, methk, ck, toy, iface, tg, found, -, -, -, hfl, -⟩ := Lam.facts hF (Lam.moved X.warmed hL)
  obtain ⟨f, hf1, hf2, hf3⟩ := hfl (iF, j) hz
  have hdg' : decode c.code pc = .ok (.getfield iF, 3) := by rw [hb]; exact hdg
  subst hm
  have hcell : T.heap[q]? = some { cls := m.cls, slots := vs.toArray, vm := .none } := by rw [hT]; exact hC
  refine ⟨t, ?_, hq⟩
  jvm_step X.here [X.here.top, hx, hdg', getfield.wp_ready (e := e) (s := T) (c := m.cls) (field := f) (a := q) (rest := rest) (cell := { cls := m.cls, slots := vs.toArray, vm := .none }) (v := x) (f := F0 m pc ls (.ref q :: rest)) X.here.top hf1 hf2 rfl hcell (by intro h; cases h) (by rw [hf3]; simpa using hv)]
  exact st
theorem rk_fwS (hx : p.tables.exec = Jvm.exec) (hb : c.code = cc) (hm : m.cls = cK) (hF : LamF σ D fw lay0 fbytes fmaxL fret iM iC iN sC tys fl) (hL : Lam σ cK s) (hK : KK G s) (hts : ∀ w ∈ lw_all, w.before args s = true) (hyc : y.cls = "WholePacks") (hyn : y.name = σ.implName) (hyd : y.desc = σ.implDesc.toString) (hy : YN y n) (hw : Cond.static y ∈ lw_all ∧ Cond.initialized y.cls ∈ lw_all ∧ Cond.code y bytes maxL ret ∈ lw_all) (hM : CP G l y (ws_ y bytes maxL ret) fr lo As Pre ov) (hR : fr + 1 ≤ R.frames ∧ 8 + (maxL + 11) + lo ≤ R.locals) (hp : Pre H) (hst : st0 = As.reverse ++ rest) (hn : As.length = n) (hls : ls.size = c.maxLocals) (hrest : (rest.map fun v => v.category).sum ≤ 8) (hdg : decode cc pc = .ok (.invokestatic iM, 3)) (hf : cells ≤ R.cells ∧ slots ≤ R.slots)
    (kk : W p l e R s m args below meth c H locs cells slots Q (F0 m (pc + 3) ls (ov.toList ++ rest))) : W p l e R s m args below meth c H locs cells slots Q (F0 m pc ls st0) := by
  refine rk_backP (a := As.toArray) ?_ kk
  intro T hT X
  obtain ⟨hst9, hin9, hco9⟩ := hw
  have hKb : Back l R p e below s args y 3 8 (PreOf R 0 0 (PcK G As Pre)) (PostOf (QcP ov) 0 0 (fun _ => False)) := back_of (bytes := bytes) (maxL := maxL) (ret := ret) hM PcK.blind rfl rfl hR.1 hR.2 (pay_in hts (lw_meth hco9)) List.mem_cons_self (fun a' U hW => all_at hts hW hin9)
  obtain ⟨k, tk, file, methk, ck, toy, iface, tB, found, ⟨hk, hkn, hfile, hpool⟩, -, ⟨htoy, htk, hitf, hlook, hready, hclsR⟩, -⟩ := Lam.facts hF (Lam.moved X.warmed hL)
  obtain ⟨mB, hnB⟩ := Cond.code_named (hts _ hco9)
  have hnT : T.methodNamed? y = some mB := X.named hnB
  have hfT : T.vm.findClass "WholePacks" = some mB.cls := by rw [← hyc]; exact findClass_of_methodNamed hnT
  obtain rfl : toy = mB.cls := Option.some.inj (htoy.symm.trans hfT)
  have htB : tB = mB := by
    have h1 := State.methodFound?_of_named hnT ⟨hy.1, hy.2.1⟩
    rw [hyc, hyn, hyd] at h1
    simp only [State.methodFound?, htoy, htk, hitf, Option.bind_eq_bind, Option.bind_some] at h1
    rw [hlook] at h1
    exact Option.some.inj h1
  subst htB
  obtain ⟨methB, cB, hmB, -, -, -, -, -, -, hsigB⟩ := Cond.code_spec hnT (all_at (a' := #[]) hts X.warmed hco9)
  have hstaticB : methB.isStatic = true := Cond.static_spec hnT hmB (all_at (a' := #[]) hts X.warmed hst9)
  have hinitK : tk.init = .initialized := Cond.initialized_spec (by rw [hyc]; exact hfT) htk (all_at (a' := #[]) hts X.warmed hin9)
  obtain ⟨kT', hkT', hnameT⟩ := className_of_methodNamed hnT
  cases htk.symm.trans hkT'
  have hsp : ∀ z : Method, signaturePolymorphic tk z = false := fun z => by
    have : tk.name = "WholePacks" := hnameT.trans hyc
    simp [signaturePolymorphic, this]
  obtain ⟨-, eM, -, -⟩ := hF
  obtain ⟨bb, hmem⟩ := memberRef_ask' (e := e) (vm := T.vm) (d := cK) (index := iM) hk hfile (Or.inl (by rw [hpool]; exact eM.1)) (by rw [hpool]; exact eM.2.2)
  have hlen : As.length = methB.sig.parameters.length := by
    have h2 := hy.2.2
    rw [hsigB] at h2
    exact hn.trans (Option.some.inj h2).symm
  have hdg' : decode c.code pc = .ok (.invokestatic iM, 3) := by rw [hb]; exact hdg
  subst hm
  obtain ⟨v, ⟨U', l2, c2, s2⟩, X', ⟨g', mk, t9, L, e1, e2, hq, h1, hL9, h2, h3⟩, st⟩ := hKb m meth c ⟨T, locs, cells, slots⟩ { F0 m pc ls st0 with stack := rest } (.invokestatic iM) tB As.toArray X rfl hls hdg' (lv_room hrest) hnT ⟨hf.1, hf.2, rk_pre hK hp T hT X.warmed⟩
  dsimp only [Pt.U, Pt.locs, Pt.cells, Pt.slots] at X' e1 e2 h1 h2 h3 st
  subst h1; subst h2; subst h3
  refine ⟨v, T.calling g' mk As.toArray, t9, U', L, hT, X', hL9, e1, e2, hq, fun target h => ?_⟩
  jvm_step X.here [X.here.top, hx, hdg', invokestatic.wp_ready (e := e) (s := T) (m := tB) (k := tk) (meth := methB) (args := As) (rest := rest) (f := F0 m pc ls st0) X.here.top ⟨iC, _, _, bb, tB.cls, tk, hmem, hclsR, htk, by simp [hsp]⟩ hready htk hmB (hsp _) hstaticB hinitK hlen hst]
  intro acts
  rw [doInvoke_state]
  exact st.trans h
theorem rk_fwV (hx : p.tables.exec = Jvm.exec) (hb : c.code = cc) (hm : m.cls = cK) (hF : LamF σ D fw lay0 fbytes fmaxL fret iM iC iN sC tys fl) (hL : Lam σ cK s) (hK : KK G s) (hts : ∀ w ∈ lw_all, w.before args s = true) (hS : va_S A0 H0 H locs) (hA : ∀ q, H0.size ≤ q → A0 q) (hyc : y.cls = "WholePacks") (hyn : y.name = σ.implName) (hyd : y.desc = σ.implDesc.toString) (hy : YN y n) (hw : Cond.instanceMethod y ∈ lw_all ∧ Cond.selects "WholePacks" y y ∈ lw_all ∧ Cond.initialized "WholePacks" ∈ lw_all ∧ Cond.code y bytes maxL ret ∈ lw_all) (hM : CT G l y (ws_ y bytes maxL ret) fr mc ms lo (.ref b :: As) FP H.size Pre Post) (hR : fr + 1 ≤ R.frames ∧ 8 + (maxL + 11) + lo ≤ R.locals) (hf2 : ∀ q, FP q → A0 q) (hrc : RcV s H "WholePacks" b) (hp : Pre H) (hst : st0 = As.reverse ++ .ref b :: rest) (hn : As.length = n) (hls : ls.size = c.maxLocals) (hrest : (rest.map fun v => v.category).sum ≤ 8) (hdg : decode cc pc = .ok (.invokevirtual iM, 3)) (hf : cells + mc ≤ R.cells ∧ slots + ms ≤ R.slots)
    (kk : ∀ (ov : Option Value) (H1 : Heap) (locs1 : List Loc), Post ov H1 → (∀ q : Nat, q < H.size → ¬ (FP q ∨ H.size ≤ q) → H1[q]? = H[q]?) → va_S A0 H0 H1 locs1 → W p l e R s m args below meth c H1 locs1 (cells + mc) (slots + ms) Q (F0 m (pc + 3) ls (ov.toList ++ rest))) : W p l e R s m args below meth c H locs cells slots Q (F0 m pc ls st0) := by
  refine rk_backT (a := (Value.ref b :: As).toArray) ?_ hS hf2 hA kk
  intro T hT X
  obtain ⟨hst9, hse9, hin9, hco9⟩ := hw
  have hKb : Back l R p e below s args y 3 8 (PreOf R mc ms (PcK G (.ref b :: As) (fun U => U.size = H.size ∧ Pre U))) (PostOf (QcT (FA FP H.size) Post) mc ms (FA FP H.size)) := back_of (bytes := bytes) (maxL := maxL) (ret := ret) hM PcK.blind rfl rfl hR.1 hR.2 (pay_in hts (lw_meth hco9)) List.mem_cons_self (fun a' U hW => by rw [hyc]; exact all_at hts hW hin9)
  obtain ⟨k, tk, file, methk, ck, toy, iface, tB, found, ⟨hk, hkn, hfile, hpool⟩, -, ⟨htoy, htk, hitf, hlook, hready, hclsR⟩, -⟩ := Lam.facts hF (Lam.moved X.warmed hL)
  obtain ⟨mB, hnB⟩ := Cond.code_named (hts _ hco9)
  have hnT : T.methodNamed? y = some mB := X.named hnB
  have hfT : T.vm.findClass "WholePacks" = some mB.cls := by rw [← hyc]; exact findClass_of_methodNamed hnT
  obtain rfl : toy = mB.cls := Option.some.inj (htoy.symm.trans hfT)
  have htB : tB = mB := by
    have h1 := State.methodFound?_of_named hnT ⟨hy.1, hy.2.1⟩
    rw [hyc, hyn, hyd] at h1
    simp only [State.methodFound?, htoy, htk, hitf, Option.bind_eq_bind, Option.bind_some] at h1
    rw [hlook] at h1
    exact Option.some.inj h1
  subst htB
  obtain ⟨methB, cB, hmB, -, -, -, -, -, -, hsigB⟩ := Cond.code_spec hnT (all_at (a' := #[]) hts X.warmed hco9)
  obtain ⟨mB2, methB2, hnB2, hmB2, hstB, habB⟩ := Cond.instanceMethod_spec (all_at (a' := #[]) hts X.warmed hst9)
  cases hnT.symm.trans hnB2
  cases hmB.symm.trans hmB2
  obtain ⟨kT', hkT', hnameT⟩ := className_of_methodNamed hnT
  cases htk.symm.trans hkT'
  have hsp : ∀ z : Method, signaturePolymorphic tk z = false := fun z => by
    have : tk.name = "WholePacks" := hnameT.trans hyc
    simp [signaturePolymorphic, this]
  obtain ⟨cellB, hcB, hoB, hclB⟩ := hrc
  have hclT : T.vm.findClass "WholePacks" = some cellB.cls := by rw [X.warmed.alike.findClass]; exact hclB
  obtain ⟨c2, r2, m2, q1, q2, q3, q4, -⟩ := Cond.selects_spec (all_at (a' := #[]) hts X.warmed hse9)
  cases hclT.symm.trans q1
  cases (State.methodFound?_of_named hnT ⟨hy.1, hy.2.1⟩).symm.trans q2
  cases hnT.symm.trans q3
  have hselP : selectMethod e.platform T.vm cellB.cls tB = .method tB := by rw [Launch.admits_selectMethod X.admits]; exact q4
  obtain ⟨-, eM, -, -⟩ := hF
  have hlen : As.length = methB.sig.parameters.length := by
    have h2 := hy.2.2
    rw [hsigB] at h2
    exact hn.trans (Option.some.inj h2).symm
  have hdg' : decode c.code pc = .ok (.invokevirtual iM, 3) := by rw [hb]; exact hdg
  subst hm
  obtain ⟨v, ⟨U', l2, c2, s2⟩, X', ⟨g', mk, t9, L, e1, e2, hq, h1, hL9, h2, h3⟩, st⟩ := hKb m meth c ⟨T, locs, cells, slots⟩ { F0 m pc ls st0 with stack := rest } (.invokevirtual iM) tB (Value.ref b :: As).toArray X rfl hls hdg' (lv_room hrest) hnT ⟨hf.1, hf.2, rk_pre hK ⟨rfl, hp⟩ T hT X.warmed⟩
  dsimp only [Pt.U, Pt.locs, Pt.cells, Pt.slots] at X' e1 e2 h1 h2 h3 st
  subst h1; subst h2; subst h3
  refine ⟨v, T.calling g' mk (Value.ref b :: As).toArray, t9, U', L, hT, X', hL9, e1, e2, hq, fun target h => ?_⟩
  jvm_step X.here [X.here.top, hx, hdg', invokevirtual.wp_ready (e := e) (s := T) (a := b) (r := tB) (m := tB) (k := tk) (mk := tk) (rmeth := methB) (meth := methB) (args := As) (rest := rest) (cell := cellB) (f := F0 m pc ls st0) X.here.top ⟨k, file, iC, iN, tB.cls, tk, hk, hfile, by rw [hpool]; exact eM.1, hclsR, htk, hitf⟩ hready htk hmB (hsp _) hstB hlen hst (by rw [hT]; exact hcB) (fun z hz => by rw [hz] at hoB; cases hoB) hselP hmB habB htk hitf]
  intro acts
  rw [doInvoke_state]
  exact st.trans h
end FWD
/-! the call of such an object -/
theorem rk_weaken {tb : Tables} {e : Env} {mid below : List Frame} {a b : State} (h : Steps tb e (mid ++ below) a b) : Steps tb e below a b := by
  obtain ⟨n, hn, w⟩ := h
  exact ⟨n, hn, fun k hk => (w k hk).weaken⟩
section LAMC
variable {p : Program} {l : Launch} {e : Env} {R : Room} {s : State} {m : MethodId} {args : Array Value} {below : List Frame} {meth : Method} {c : Code} {H : Heap} {locs : List Loc} {cells slots : Nat} {Q : State → Prop}
variable {cc : ByteArray} {pc nL index count n fr lo mc ms : Nat} {ls : Array Slot} {rest st0 As : List Value} {G : Gv} {A0 : Nat → Prop} {H0 : Heap} {own : String} {x : MethodName} {FP : Nat → Prop} {Post : Option Value → Heap → Prop}
variable {σ : Lambda.Shape} {D : ClassFile} {fw : Method} {lay0 : Array Field × Array FieldType × Array FieldType} {fbytes : ByteArray} {fmaxL : Nat} {fret : Option FieldType} {iM iC iN sC : Nat} {tys : Array FieldType} {fl : List (Nat × Nat)} {cK : ClassId}
/-- what the body of a made class's method has in hand -/
def Lx (G : Gv) (σ : Lambda.Shape) (cK : ClassId) (p : Program) (s : State) (args : Array Value) (meth : Method) (c : Code) (cc : ByteArray) (nL : Nat) (ret : Option FieldType) : Prop := p.tables.exec = Jvm.exec ∧ c.code = cc ∧ meth.sig.returnType = ret ∧ meth.locks = false ∧ c.maxLocals = nL ∧ Lam σ cK s ∧ (∀ w ∈ lw_all, w.before args s = true) ∧ KK G s
theorem rk_lam {q : Nat} {vs : List Value} (hx : p.tables.exec = Jvm.exec) (hb : c.code = cc) (hml : c.maxLocals = nL) (hown : s.vm.findClass own = some m.cls) (hts : ∀ w ∈ lw_all, w.before args s = true) (hK : KK G s) (hS : va_S A0 H0 H locs) (hA : ∀ q, H0.size ≤ q → A0 q) (hF : LamF σ D fw lay0 fbytes fmaxL fret iM iC iN sC tys fl) (hL : Lam σ cK s) (hxs : x.cls = σ.iface ∧ x.name = σ.name ∧ x.desc = σ.sam.toString) (hlink : Cond.methodLink own index x ∈ lw_all) (hdecl : Cond.declares x ∈ lw_tbl) (hface : va_Nw (Cond.interfaceMethod x.cls x.cls x.name x.desc) s) (hy : YN x n) (hC : LC H q cK vs) (hR : fr + 1 ≤ R.frames ∧ 8 + (fmaxL + 11) + lo ≤ R.locals) (hf2 : ∀ q, FP q → A0 q) (hst : st0 = As.reverse ++ .ref q :: rest) (hn : As.length = n) (hls : ls.size = nL) (hrest : (rest.map fun v => v.category).sum ≤ 8) (hdg : decode cc pc = .ok (.invokeinterface index count, 5)) (hf : cells + mc ≤ R.cells ∧ slots + ms ≤ R.slots)
    (body : ∀ (s' : State) (meth' : Method) (c' : Code) (g : Frame), s'.heap = H → s.WarmedH s'.vm → Lx G σ cK p s' (Value.ref q :: As).toArray meth' c' fbytes fmaxL fret → W p l e (rmT fr mc ms lo) s' ⟨cK, 1⟩ (Value.ref q :: As).toArray (g :: below) meth' c' H [] 0 0 (MQ (g :: below) (QcT (FA FP H.size) Post) (Value.ref q :: As).toArray s' mc ms (FA FP H.size)) (entryFrame ⟨cK, 1⟩ (Value.ref q :: As).toArray fmaxL))
    (kk : ∀ (ov : Option Value) (H1 : Heap) (locs1 : List Loc), Post ov H1 → (∀ q : Nat, q < H.size → ¬ (FP q ∨ H.size ≤ q) → H1[q]? = H[q]?) → va_S A0 H0 H1 locs1 → W p l e R s m args below meth c H1 locs1 (cells + mc) (slots + ms) Q (F0 m (pc + 5) ls (ov.toList ++ rest))) : W p l e R s m args below meth c H locs cells slots Q (F0 m pc ls st0) := by
  have hfA : ∀ q, FA FP H.size q → A0 q := fun q h => h.elim (hf2 q) (fun h => hA q (Nat.le_trans hS.1 h))
  intro T hT X
  have hLs := hL
  obtain ⟨k, tk, file, methk, ck, toy, iface, tB, found, ⟨hk, hkn, hfile, hpool⟩, ⟨hmk, hck, hcb, hcl, hlk, hfl, hret⟩, -, -, -, ⟨hif, hfound, hsel, hasg, hway⟩⟩ := Lam.facts hF hL
  obtain ⟨r0, r, hn0, hrm, hstR, hsigR⟩ := Cond.declares_spec (va_Nw.use (A := args) rfl (hK.nw hdecl rfl))
  obtain ⟨cL, kL, r1, hcL, hkL, hiL, hfoundL, hn1⟩ := Cond.interfaceMethod_spec (va_Nw.use (A := args) rfl hface)
  cases hn0.symm.trans hn1
  have hr0cls : r0.cls = cL := Option.some.inj ((findClass_of_methodNamed hn0).symm.trans hcL)
  obtain ⟨hnameR, hdescR⟩ := name_of_methodNamed hn0 hrm
  obtain rfl : iface = cL := by rw [hxs.1] at hcL; exact Option.some.inj (hif.symm.trans hcL)
  have hfr : found = r0 := by
    have h1 : s.methodFound? x.cls x.name x.desc = some r0 := hfoundL
    simp only [State.methodFound?, hcL, hkL, hiL, Option.bind_eq_bind, Option.bind_some] at h1
    rw [hxs.2.1, hxs.2.2, hfound] at h1
    exact Option.some.inj h1
  subst hfr
  have hC' : T.heap[q]? = some { cls := cK, slots := vs.toArray, vm := .none } := by rw [hT]; exact hC
  obtain ⟨vm₁, X₁, hstep₁⟩ := X.invokeinterface hx hown (hts _ hlink) hn0 hrm hstR (by rw [hr0cls]; exact hkL) hiL ⟨hy.1, hy.2.1⟩ (a := q) (cell := { cls := cK, slots := vs.toArray, vm := .none }) (kcell := k) hC'
    (fun z h => by cases h) hk (by rw [hr0cls]; exact hasg) (m' := ⟨cK, 1⟩) (meth' := methk) (by rw [Launch.admits_selectMethod X.admits]; exact hsel) hmk (by rw [hnameR, hdescR, hxs.2.1, hxs.2.2]; exact hway) (by rw [hfl]; decide) (by simp [Method.isAbstract, hfl, hasFlag, Acc.abstract]) (g := F0 m pc ls st0) rfl (argsL := As) (rest := rest)
    (by have h2 := hy.2.2; rw [hsigR] at h2; exact hn.trans (Option.some.inj h2).symm) hst (by rw [hb]; exact hdg)
  have hW1 : s.WarmedH (T.setVm vm₁).vm := X₁.warmed
  have hmk1 : (T.setVm vm₁).vm.method? ⟨cK, 1⟩ = some methk := by rw [hW1.alike.method?]; exact hmk
  obtain ⟨k1, hk1, ek1⟩ := hW1.alike.2.2 _ _ hk
  have hpk : (T.setVm vm₁).plainMethod ⟨cK, 1⟩ := State.plainMethod.of_name (fun k' hk' => by cases hk1.symm.trans hk'; rw [ek1]; show plainName k.name = true; rw [hkn]; decide)
  have hdg' : decode c.code pc = .ok (.invokeinterface index count, 5) := by rw [hb]; exact hdg
  obtain ⟨Y, hin⟩ := X₁.into (g := (F0 m pc ls rest)) rfl (hls.trans hml.symm) (ig := .invokeinterface index count) (len := 5) hdg' (Value.ref q :: As).toArray (R' := rmT fr mc ms lo) hmk1 hck hlk hpk hR.1 (by rw [hcl]; have h9 := hR.2; have h8 : 2 * (F0 m pc ls rest).monitorRoom + ((F0 m pc ls rest).stack.map fun v => v.category).sum ≤ 8 := lv_room hrest; have h10 : (rmT fr mc ms lo).locals = lo := rfl; omega) hf.1 hf.2
  have hX : Lx G σ cK p ((T.setVm vm₁).calling (F0 m pc ls rest) ⟨cK, 1⟩ (Value.ref q :: As).toArray) (Value.ref q :: As).toArray methk ck fbytes fmaxL fret := ⟨hx, hcb, hret, hlk, hcl, Lam.moved (U := (T.setVm vm₁).calling (F0 m pc ls rest) ⟨cK, 1⟩ (Value.ref q :: As).toArray) hW1 hL, fun w hw => all_at hts (T := (T.setVm vm₁).calling (F0 m pc ls rest) ⟨cK, 1⟩ (Value.ref q :: As).toArray) hW1 hw, KK.moved (U := (T.setVm vm₁).calling (F0 m pc ls rest) ⟨cK, 1⟩ (Value.ref q :: As).toArray) hW1 hK⟩
  obtain ⟨t, a1, o, b1, b2, ⟨⟨ov, ho, hp⟩, hz, hkp⟩, L, ⟨-, hWe, hsame⟩, hL9⟩ := body ((T.setVm vm₁).calling (F0 m pc ls rest) ⟨cK, 1⟩ (Value.ref q :: As).toArray) methk ck (.java (F0 m pc ls rest)) hT hW1 hX (((T.setVm vm₁).setTop (F0 m pc ls rest)).pushFrame (.java (entryFrame ⟨cK, 1⟩ (Value.ref q :: As).toArray ck.maxLocals))) hT Y
  subst ho
  obtain ⟨T', X', hW', -, ht⟩ := X₁.outOf (g := (F0 m pc ls rest)) rfl (ig := .invokeinterface index count) (len := 5) hdg' b2 hWe hsame
  have e1 : T'.heap = t.heap := by rw [ht]; rfl
  have hz' : H.size ≤ t.heap.size := by
    have h9 : ((T.setVm vm₁).calling (F0 m pc ls rest) ⟨cK, 1⟩ (Value.ref q :: As).toArray).heap = H := hT
    rw [h9] at hz; exact hz
  have hkp' : ∀ z : Nat, z < H.size → ¬ (FP z ∨ H.size ≤ z) → t.heap[z]? = H[z]? := by
    have h9 : ((T.setVm vm₁).calling (F0 m pc ls rest) ⟨cK, 1⟩ (Value.ref q :: As).toArray).heap = H := hT
    rw [h9] at hkp; exact hkp
  obtain ⟨t2, a2, b3⟩ := kk ov T'.heap (locs ++ L) (by rw [e1]; exact hp) (fun z h1 h2 => by rw [e1]; exact hkp' z h1 h2)
    ⟨Nat.le_trans hS.1 (by rw [e1]; exact hz'), fun z h1 h2 => by rw [e1, hkp' z (Nat.lt_of_lt_of_le h1 hS.1) (fun y => h2 (hfA z y))]; exact hS.2.1 z h1 h2, fun z hz9 => by
      rcases List.mem_append.mp hz9 with h | h
      · exact hS.2.2 z h
      · exact hfA _ (hL9 z h)⟩ T' rfl X'
  refine ⟨t2, hstep₁ _ (fun acts => ?_), b3⟩
  have h3 := hin acts
  rw [← hcl] at a1
  have a1' := rk_weaken (mid := [.java (F0 m pc ls rest)]) a1
  rw [ht] at a1'
  exact (show Steps p.tables e below (doInvoke e ((T.setVm vm₁).setTop (F0 m pc ls rest)) acts ⟨cK, 1⟩ (Value.ref q :: As).toArray).1 _ by rw [h3]; exact a1').trans a2
theorem rk_lamP {ov : Option Value} {q : Nat} {vs : List Value} (hx : p.tables.exec = Jvm.exec) (hb : c.code = cc) (hml : c.maxLocals = nL) (hown : s.vm.findClass own = some m.cls) (hts : ∀ w ∈ lw_all, w.before args s = true) (hK : KK G s) (hF : LamF σ D fw lay0 fbytes fmaxL fret iM iC iN sC tys fl) (hL : Lam σ cK s) (hxs : x.cls = σ.iface ∧ x.name = σ.name ∧ x.desc = σ.sam.toString) (hlink : Cond.methodLink own index x ∈ lw_all) (hdecl : Cond.declares x ∈ lw_tbl) (hface : va_Nw (Cond.interfaceMethod x.cls x.cls x.name x.desc) s) (hy : YN x n) (hC : LQ H q cK vs) (hR : fr + 1 ≤ R.frames ∧ 8 + (fmaxL + 11) + lo ≤ R.locals) (hst : st0 = As.reverse ++ .ref q :: rest) (hn : As.length = n) (hls : ls.size = nL) (hrest : (rest.map fun v => v.category).sum ≤ 8) (hdg : decode cc pc = .ok (.invokeinterface index count, 5)) (hf : cells ≤ R.cells ∧ slots ≤ R.slots)
    (body : ∀ (s' : State) (meth' : Method) (c' : Code) (g : Frame), s'.heap = H → s.WarmedH s'.vm → Lx G σ cK p s' (Value.ref q :: As).toArray meth' c' fbytes fmaxL fret → W p l e (rmP fr lo) s' ⟨cK, 1⟩ (Value.ref q :: As).toArray (g :: below) meth' c' H [] 0 0 (MQ (g :: below) (QcP ov) (Value.ref q :: As).toArray s' 0 0 (fun _ => False)) (entryFrame ⟨cK, 1⟩ (Value.ref q :: As).toArray fmaxL))
    (kk : W p l e R s m args below meth c H locs cells slots Q (F0 m (pc + 5) ls (ov.toList ++ rest))) : W p l e R s m args below meth c H locs cells slots Q (F0 m pc ls st0) := by
  intro T hT X
  have hLs := hL
  obtain ⟨mo, ha, hC⟩ := hC
  obtain ⟨k, tk, file, methk, ck, toy, iface, tB, found, ⟨hk, hkn, hfile, hpool⟩, ⟨hmk, hck, hcb, hcl, hlk, hfl, hret⟩, -, -, -, ⟨hif, hfound, hsel, hasg, hway⟩⟩ := Lam.facts hF hL
  obtain ⟨r0, r, hn0, hrm, hstR, hsigR⟩ := Cond.declares_spec (va_Nw.use (A := args) rfl (hK.nw hdecl rfl))
  obtain ⟨cL, kL, r1, hcL, hkL, hiL, hfoundL, hn1⟩ := Cond.interfaceMethod_spec (va_Nw.use (A := args) rfl hface)
  cases hn0.symm.trans hn1
  have hr0cls : r0.cls = cL := Option.some.inj ((findClass_of_methodNamed hn0).symm.trans hcL)
  obtain ⟨hnameR, hdescR⟩ := name_of_methodNamed hn0 hrm
  obtain rfl : iface = cL := by rw [hxs.1] at hcL; exact Option.some.inj (hif.symm.trans hcL)
  have hfr : found = r0 := by
    have h1 : s.methodFound? x.cls x.name x.desc = some r0 := hfoundL
    simp only [State.methodFound?, hcL, hkL, hiL, Option.bind_eq_bind, Option.bind_some] at h1
    rw [hxs.2.1, hxs.2.2, hfound] at h1
    exact Option.some.inj h1
  subst hfr
  have hC' : T.heap[q]? = some { cls := cK, slots := vs.toArray, vm := .none, monitor := mo, hash := ha } := by rw [hT]; exact hC
  obtain ⟨vm₁, X₁, hstep₁⟩ := X.invokeinterface hx hown (hts _ hlink) hn0 hrm hstR (by rw [hr0cls]; exact hkL) hiL ⟨hy.1, hy.2.1⟩ (a := q) (cell := { cls := cK, slots := vs.toArray, vm := .none, monitor := mo, hash := ha }) (kcell := k) hC'
    (fun z h => by cases h) hk (by rw [hr0cls]; exact hasg) (m' := ⟨cK, 1⟩) (meth' := methk) (by rw [Launch.admits_selectMethod X.admits]; exact hsel) hmk (by rw [hnameR, hdescR, hxs.2.1, hxs.2.2]; exact hway) (by rw [hfl]; decide) (by simp [Method.isAbstract, hfl, hasFlag, Acc.abstract]) (g := F0 m pc ls st0) rfl (argsL := As) (rest := rest)
    (by have h2 := hy.2.2; rw [hsigR] at h2; exact hn.trans (Option.some.inj h2).symm) hst (by rw [hb]; exact hdg)
  have hW1 : s.WarmedH (T.setVm vm₁).vm := X₁.warmed
  have hmk1 : (T.setVm vm₁).vm.method? ⟨cK, 1⟩ = some methk := by rw [hW1.alike.method?]; exact hmk
  obtain ⟨k1, hk1, ek1⟩ := hW1.alike.2.2 _ _ hk
  have hpk : (T.setVm vm₁).plainMethod ⟨cK, 1⟩ := State.plainMethod.of_name (fun k' hk' => by cases hk1.symm.trans hk'; rw [ek1]; show plainName k.name = true; rw [hkn]; decide)
  have hdg' : decode c.code pc = .ok (.invokeinterface index count, 5) := by rw [hb]; exact hdg
  obtain ⟨Y, hin⟩ := X₁.into (g := (F0 m pc ls rest)) rfl (hls.trans hml.symm) (ig := .invokeinterface index count) (len := 5) hdg' (Value.ref q :: As).toArray (R' := rmP fr lo) hmk1 hck hlk hpk hR.1 (by rw [hcl]; have h9 := hR.2; have h8 : 2 * (F0 m pc ls rest).monitorRoom + ((F0 m pc ls rest).stack.map fun v => v.category).sum ≤ 8 := lv_room hrest; have h10 : (rmP fr lo).locals = lo := rfl; omega) hf.1 hf.2
  have hX : Lx G σ cK p ((T.setVm vm₁).calling (F0 m pc ls rest) ⟨cK, 1⟩ (Value.ref q :: As).toArray) (Value.ref q :: As).toArray methk ck fbytes fmaxL fret := ⟨hx, hcb, hret, hlk, hcl, Lam.moved (U := (T.setVm vm₁).calling (F0 m pc ls rest) ⟨cK, 1⟩ (Value.ref q :: As).toArray) hW1 hL, fun w hw => all_at hts (T := (T.setVm vm₁).calling (F0 m pc ls rest) ⟨cK, 1⟩ (Value.ref q :: As).toArray) hW1 hw, KK.moved (U := (T.setVm vm₁).calling (F0 m pc ls rest) ⟨cK, 1⟩ (Value.ref q :: As).toArray) hW1 hK⟩
  obtain ⟨t, a1, o, b1, b2, ⟨ho, hh⟩, L, ⟨-, hWe, hsame⟩, hL9⟩ := body ((T.setVm vm₁).calling (F0 m pc ls rest) ⟨cK, 1⟩ (Value.ref q :: As).toArray) methk ck (.java (F0 m pc ls rest)) hT hW1 hX (((T.setVm vm₁).setTop (F0 m pc ls rest)).pushFrame (.java (entryFrame ⟨cK, 1⟩ (Value.ref q :: As).toArray ck.maxLocals))) hT Y
  subst ho
  obtain ⟨T', X', hW', -, ht⟩ := X₁.outOf (g := (F0 m pc ls rest)) rfl (ig := .invokeinterface index count) (len := 5) hdg' b2 hWe hsame
  have e1 : T'.heap = t.heap := by rw [ht]; rfl
  have h9 : ((T.setVm vm₁).calling (F0 m pc ls rest) ⟨cK, 1⟩ (Value.ref q :: As).toArray).heap = H := hT
  obtain ⟨t2, a2, b3⟩ := kk T' (by rw [e1, hh, h9]) (Stand.forget X' (fun q h => (hL9 q h).elim))
  refine ⟨t2, hstep₁ _ (fun acts => ?_), b3⟩
  have h3 := hin acts
  rw [← hcl] at a1
  have a1' := rk_weaken (mid := [.java (F0 m pc ls rest)]) a1
  rw [ht] at a1'
  exact (show Steps p.tables e below (doInvoke e ((T.setVm vm₁).setTop (F0 m pc ls rest)) acts ⟨cK, 1⟩ (Value.ref q :: As).toArray).1 _ by rw [h3]; exact a1').trans a2
end LAMC
