/-! THE WORLD at the law's entry -/
set_option maxRecDepth 100000
theorem mirror_mv {a a' : Array Value} {U U' : State} {C : String} {r : Addr} (hal : U.vm.Alike U'.vm) (h : (Term.mirror C).eval a U none [] U = some (.ref r)) : (Term.mirror C).eval a' U' none [] U' = some (.ref r) := by
  obtain ⟨cM, kM, mirM, hfM, hkM, hmM, hrM⟩ := Term.mirror_spec h
  cases hrM
  obtain ⟨kM', hkM', eM⟩ := hal.2.2 _ _ hkM
  have hf' : U'.vm.findClass C = some cM := by rw [hal.findClass]; exact hfM
  have hm' : kM'.mirror = some r := by rw [eM]; exact hmM
  simp [Term.eval, hf', hkM', hm']
theorem mir_of {args : Array Value} {s : State} (h : (Cond.isRef (Term.mirror "[Ljava/lang/Object;")).before args s = true) : ∃ r : Nat, ∀ A : Array Value, (Term.mirror "[Ljava/lang/Object;").eval A s none [] s = some (.ref r) := by
  obtain ⟨v, hv, hvr⟩ := Cond.isRef_spec h
  obtain ⟨cM, kM, mirM, hfM, hkM, hmM, hrM⟩ := Term.mirror_spec hv
  subst hrM
  exact ⟨mirM, fun A => mirror_mv (Vm.Alike.refl _) hv⟩
theorem arr_p {args : Array Value} {s : State} {ty : FieldType} (h : (Cond.arrayClass ty).before args s = true) (hno : ∀ C, ty ≠ .object C) : ∃ cA : ClassId, ArrOfT s cA ty ∧ va_RA s cA ty := by
  obtain ⟨cA, kA, comp, h1, h2, h3⟩ := Cond.arrayClass_spec h
  refine ⟨cA, fun n z => ⟨fun k h => (by cases h), kA, h2, comp, h3⟩, ?_⟩
  cases ty <;> first | exact h1 | exact absurd rfl (hno _)
theorem arr_o {args : Array Value} {s : State} {C : String} (h : (Cond.arrayOver (.object C)).before args s = true) : ∃ cA : ClassId, ArrOfT s cA (.object C) ∧ va_RA s cA (.object C) := by
  obtain ⟨comp, c, k, h1, -, h3, h4, h5⟩ := Cond.arrayOver_spec h
  exact ⟨c, fun n z => ⟨fun k h => (by cases h), k, h3, comp, h4⟩, k, comp, h3, h4, h1, h5⟩
theorem obj_of {args : Array Value} {s : State} (h : (Cond.instantiable "java/lang/Object" 0).before args s = true) : ∀ o ok, s.vm.findClass "java/lang/Object" = some o → s.vm.classes[o]? = some ok → ok.instanceTypes.size = 0 := by
  obtain ⟨c1, kX, hc1, hk, hord, -, -, hn⟩ := Cond.instantiable_spec h
  intro o ok ho hok
  cases Option.some.inj (hc1.symm.trans ho)
  cases Option.some.inj (hk.symm.trans hok)
  exact hn
theorem site_name {x : MethodName} {s : State} (hx : x.cls = "WholePacks") : ∀ (m : MethodId) (k : Class), s.methodNamed? x = some m → s.vm.classes[m.cls]? = some k → k.name = "WholePacks" := fun m k h1 h2 => by
  obtain ⟨k', h3, h4⟩ := className_of_methodNamed h1
  cases Option.some.inj (h2.symm.trans h3)
  exact h4.trans hx
theorem site_C {x : MethodName} {pc index : Nat} {σ : Lambda.Shape} {args : Array Value} {s : State} (h : (Cond.lambdaSite x pc index σ).before args s = true) (hx : x.cls = "WholePacks") (hO : ∀ o ok, s.vm.findClass "java/lang/Object" = some o → s.vm.classes[o]? = some ok → ok.instanceTypes.size = 0) (hc : σ.captured = []) : ∃ (cK : ClassId) (a : Nat), SF x pc index σ cK (.constant a) s ∧ LQ s.heap a cK [] := by
  obtain ⟨cK, lk, h1, h2⟩ := SF.of h (site_name hx) hO
  rcases h2 with ⟨a, cell, rfl, -, h3, h4, h5, h6⟩ | ⟨-, h3⟩
  · refine ⟨cK, a, h1, ?_⟩
    obtain ⟨e1, e2, e3, e4, e5⟩ := cell
    dsimp only at h4 h5 h6
    subst h4
    subst h5
    subst h6
    exact ⟨_, _, h3⟩
  · exact absurd hc h3
theorem site_M {x : MethodName} {pc index : Nat} {σ : Lambda.Shape} {args : Array Value} {s : State} (h : (Cond.lambdaSite x pc index σ).before args s = true) (hx : x.cls = "WholePacks") (hO : ∀ o ok, s.vm.findClass "java/lang/Object" = some o → s.vm.classes[o]? = some ok → ok.instanceTypes.size = 0) (hc : σ.captured ≠ []) : ∃ cK : ClassId, SF x pc index σ cK (.makes cK) s := by
  obtain ⟨cK, lk, h1, h2⟩ := SF.of h (site_name hx) hO
  rcases h2 with ⟨a, cell, -, h3, -⟩ | ⟨rfl, -⟩
  · exact absurd h3 hc
  · exact ⟨cK, h1⟩
theorem SF.lam {x : MethodName} {pc index : Nat} {σ : Lambda.Shape} {cK : ClassId} {lk : Linked} {U : State} (h : SF x pc index σ cK lk U) : Lam σ cK U := by
  obtain ⟨m, k, cf, i0, p0, bsm, nt, name, desc, rt, h1, h2, h3, h4, h5, h6, h7, h8⟩ := h
  exact h8
/-- what the classes' tables keep through the run -/
def WP (dA : Nat → ClassId) (Hs : Heap) (U : State) : Prop :=
  ((Lam (sgL "lambda$new$0") (dA 20) U ∧ Lam (sgL "lambda$new$1") (dA 21) U ∧ Lam (sgC "bounds") (dA 22) U ∧ Lam (sgC "lambda$new$2") (dA 23) U ∧ Lam (sgC "factors") (dA 24) U ∧ Lam (sgK "lambda$nth$3") (dA 25) U ∧ Lam (sgK "lambda$many$4") (dA 26) U ∧ Lam (sgK "lambda$lost$5") (dA 27) U) ∧
    (IM yLof U ∧ IM yCdoes U ∧ IM yKgoes U) ∧
    (SF ⟨"WholePacks", "nth", "(I)I"⟩ 25 379 (sgK "lambda$nth$3") (dA 25) (.makes (dA 25)) U ∧ SF ⟨"WholePacks", "many", "(I)I"⟩ 20 392 (sgK "lambda$many$4") (dA 26) (.makes (dA 26)) U ∧ SF ⟨"WholePacks", "lost", "(I)I"⟩ 24 398 (sgK "lambda$lost$5") (dA 27) (.makes (dA 27)) U)) ∧
  (SF ⟨"WholePacks", "<init>", "()V"⟩ 240 102 (sgL "lambda$new$0") (dA 20) (.constant (dA 28)) U ∧ SF ⟨"WholePacks", "<init>", "()V"⟩ 251 106 (sgL "lambda$new$1") (dA 21) (.constant (dA 29)) U ∧
    SF ⟨"WholePacks", "<init>", "()V"⟩ 263 107 (sgC "bounds") (dA 22) (.makes (dA 22)) U ∧ SF ⟨"WholePacks", "<init>", "()V"⟩ 275 111 (sgC "lambda$new$2") (dA 23) (.makes (dA 23)) U ∧ SF ⟨"WholePacks", "<init>", "()V"⟩ 287 112 (sgC "factors") (dA 24) (.makes (dA 24)) U) ∧
  (va_Fw "WholePacks$Mix" ⟨"java/lang/Comparable", "compareTo", "(Ljava/lang/Object;)I"⟩ ⟨"WholePacks$Mix", "compareTo", "(Ljava/lang/Object;)I"⟩ U ∧
    va_Fw "WholePacks$Node" ⟨"java/lang/Comparable", "compareTo", "(Ljava/lang/Object;)I"⟩ ⟨"WholePacks$Node", "compareTo", "(Ljava/lang/Object;)I"⟩ U ∧
    va_Fw "WholePacks$Dearer" ⟨"java/util/Comparator", "compare", "(Ljava/lang/Object;Ljava/lang/Object;)I"⟩ ⟨"WholePacks$Dearer", "compare", "(Ljava/lang/Object;Ljava/lang/Object;)I"⟩ U ∧
    va_Fw "java/util/TreeMap$KeyIterator" ⟨"java/util/Iterator", "hasNext", "()Z"⟩ ⟨"java/util/TreeMap$PrivateEntryIterator", "hasNext", "()Z"⟩ U ∧
    va_Fw "java/util/TreeMap$KeyIterator" ⟨"java/util/Iterator", "next", "()Ljava/lang/Object;"⟩ ⟨"java/util/TreeMap$KeyIterator", "next", "()Ljava/lang/Object;"⟩ U ∧
    va_Fw "java/util/TreeMap$KeySet" ⟨"java/util/Set", "iterator", "()Ljava/util/Iterator;"⟩ ⟨"java/util/TreeMap$KeySet", "iterator", "()Ljava/util/Iterator;"⟩ U) ∧
  (∀ A : Array Value, (Term.mirror "[Ljava/lang/Object;").eval A U none [] U = some (.ref (dA 30))) ∧
  (∀ a ∈ anm, ∀ b ∈ anm4, a ≠ b → va_Nc a b U) ∧
  va_Nc "java/lang/ArrayIndexOutOfBoundsException" "java/lang/ArrayStoreException" U ∧
  vx_Zq Bundle.tN "UNASSIGNED_STACK" Bundle.steD (fun q => Hs.size ≤ q) U Hs ∧ vx_Zq Bundle.tN "SUPPRESSED_SENTINEL" Bundle.listD (fun q => Hs.size ≤ q) U Hs
theorem WP.zq {dA : Nat → ClassId} {Hs : Heap} {U : State} (h : WP dA Hs U) : vx_Zq Bundle.tN "UNASSIGNED_STACK" Bundle.steD (fun q => Hs.size ≤ q) U Hs ∧ vx_Zq Bundle.tN "SUPPRESSED_SENTINEL" Bundle.listD (fun q => Hs.size ≤ q) U Hs := h.2.2.2.2.2.2
theorem WP.moved {dA : Nat → ClassId} {Hs : Heap} {u U : State} (hW : u.WarmedH U.vm) (h : WP dA Hs u) : WP dA Hs U := by
  obtain ⟨⟨⟨l1, l2, l3, l4, l5, l6, l7, l8⟩, ⟨m1, m2, m3⟩, ⟨s1, s2, s3⟩⟩, ⟨t1, t2, t3, t4, t5⟩, ⟨f1, f2, f3, f4, f5, f6⟩, hm, hn, hc, z1, z2⟩ := h
  exact ⟨⟨⟨l1.moved hW, l2.moved hW, l3.moved hW, l4.moved hW, l5.moved hW, l6.moved hW, l7.moved hW, l8.moved hW⟩, ⟨IM.moved (by decide) hW m1, IM.moved (by decide) hW m2, IM.moved (by decide) hW m3⟩, ⟨s1.moved hW, s2.moved hW, s3.moved hW⟩⟩, ⟨t1.moved hW, t2.moved hW, t3.moved hW, t4.moved hW, t5.moved hW⟩,
    ⟨va_Fw.moved (by decide) hW.alike f1, va_Fw.moved (by decide) hW.alike f2, va_Fw.moved (by decide) hW.alike f3, va_Fw.moved (by decide) hW.alike f4, va_Fw.moved (by decide) hW.alike f5, va_Fw.moved (by decide) hW.alike f6⟩, fun A => mirror_mv hW.alike (hm A), fun a ha b hb hab => (hn a ha b hb hab).moved hW.alike, hc.moved hW.alike, z1.moved hW.alike, z2.moved hW.alike⟩
theorem nw_1 : siteWord_1_1 ∈ flatC (Jvm.Cond.and given_1 narrow_1) := by decide +kernel
theorem nw_2 : siteWord_1_2 ∈ flatC (Jvm.Cond.and given_1 narrow_1) := by decide +kernel
theorem nw_3 : siteWord_1_3 ∈ flatC (Jvm.Cond.and given_1 narrow_1) := by decide +kernel
theorem nw_4 : siteWord_1_4 ∈ flatC (Jvm.Cond.and given_1 narrow_1) := by decide +kernel
theorem nw_5 : siteWord_1_5 ∈ flatC (Jvm.Cond.and given_1 narrow_1) := by decide +kernel
theorem nw_6 : siteWord_1_6 ∈ flatC (Jvm.Cond.and given_1 narrow_1) := by decide +kernel
theorem nw_7 : siteWord_1_7 ∈ flatC (Jvm.Cond.and given_1 narrow_1) := by decide +kernel
theorem nw_8 : siteWord_1_8 ∈ flatC (Jvm.Cond.and given_1 narrow_1) := by decide +kernel
theorem nw_m : Cond.isRef (Term.mirror "[Ljava/lang/Object;") ∈ flatC (Jvm.Cond.and given_1 narrow_1) := by decide +kernel
theorem nw_s1 : Cond.isRef (Term.static "java/lang/Throwable" "UNASSIGNED_STACK" "[Ljava/lang/StackTraceElement;") ∈ flatC (Jvm.Cond.and given_1 narrow_1) := by decide +kernel
theorem nw_s2 : Cond.isRef (Term.static "java/lang/Throwable" "SUPPRESSED_SENTINEL" "Ljava/util/List;") ∈ flatC (Jvm.Cond.and given_1 narrow_1) := by decide +kernel
theorem nw_n : ∀ a ∈ anm, ∀ b ∈ anm4, a ≠ b → Cond.not (.castable a b) ∈ flatC (Jvm.Cond.and given_1 narrow_1) := by decide +kernel
theorem nw_c : Cond.not (.castable "java/lang/ArrayIndexOutOfBoundsException" "java/lang/ArrayStoreException") ∈ flatC (Jvm.Cond.and given_1 narrow_1) := by decide +kernel
set_option maxHeartbeats 8000000 in
theorem world {p : Program} {l : Launch} {s : State} {m : MethodId} {meth : Method} {c : Code} {b L : Nat} {xs : Nat → Int32} (hst : l.stackTraces = false) (C0 : lw_At p s m meth c b L xs) : ∃ G : Gv, LWd G p l s m c b L xs s.heap.size ∧ GO G s.heap ∧ ZI G := by
  obtain ⟨hx, hb, hr, hml, hown, hts0, hX, hbl, hlocks, hgv⟩ := id C0
  have hts : ∀ w ∈ lw_all, w.before #[Value.ref b] s = true := fun w h => hts0 w (lw_all_tbl h)
  have hnv := flat_of_before _ hgv
  have hobj := obj_of (hts _ q2442)
  obtain ⟨c0, i0, hk0⟩ := u_known (C := RX0) (T := TX0) (N := 25) hts in_X0 (hts _ q154)
  obtain ⟨c1, i1, hk1⟩ := u_known (C := RX1) (T := TX1) (N := 11) hts in_X1 (hts _ q162)
  obtain ⟨c2, i2, hk2⟩ := u_known (C := RX2) (T := TX2) (N := 3) hts in_X2 (hts _ q169)
  obtain ⟨c3, i3, hk3⟩ := u_known (C := RX3) (T := TX3) (N := 12) hts in_X3 (hts _ q241)
  obtain ⟨c4, i4, hk4⟩ := u_known (C := RX4) (T := TX4) (N := 4) hts in_X4 (hts _ q248)
  obtain ⟨c5, i5, hk5⟩ := u_known (C := RX5) (T := TX5z) (N := 0) hts in_X5 (hts _ q367)
  obtain ⟨c6, i6, hk6⟩ := u_known (C := RX6) (T := TX6) (N := 1) hts in_X6 (hts _ q409)
  obtain ⟨c7, i7, hk7⟩ := u_known (C := RX7) (T := TX7) (N := 2) hts in_X7 (hts _ q443)
  obtain ⟨c8, i8, hk8⟩ := u_known (C := RX8) (T := TX8) (N := 8) hts in_X8 (hts _ q458)
  obtain ⟨c9, i9, hk9⟩ := u_known (C := RX9) (T := TX9) (N := 29) hts in_X9 (hts _ q1740)
  obtain ⟨c10, i10, hk10⟩ := u_known (C := RX10) (T := TX10) (N := 20) hts in_X10 (hts _ q1746)
  obtain ⟨c11, i11, hk11⟩ := u_known (C := RX11) (T := TX11) (N := 4) hts in_X11 (hts _ q636)
  obtain ⟨c12, i12, hk12⟩ := u_known (C := RX12) (T := TX12) (N := 7) hts in_X12 (hts _ q684)
  obtain ⟨c13, i13, hk13⟩ := u_known (C := RX13) (T := TX13) (N := 7) hts in_X13 (hts _ q817)
  obtain ⟨c14, i14, hk14⟩ := u_known (C := RX14) (T := TX14) (N := 2) hts in_X14 (hts _ q1335)
  obtain ⟨c15, i15, hk15⟩ := u_known (C := RX15) (T := TX15) (N := 1) hts in_X15 (hts _ q1371)
  obtain ⟨c16, i16, hk16⟩ := u_known (C := RJ1) (T := TJ1) (N := 9) hts in_J1 (hts _ q325)
  obtain ⟨c17, i17, hk17⟩ := u_known (C := RJ4) (T := TJ4) (N := 4) hts in_J4 (hts _ q365)
  obtain ⟨c18, i18, hk18⟩ := u_known (C := RJ11) (T := TJ11) (N := 6) hts in_J11 (hts _ q1398)
  obtain ⟨c19, i19, hk19⟩ := u_known (C := RJ13) (T := TJ13) (N := 1) hts in_J13 (hts _ q1515)
  obtain ⟨c20, i20, hk20⟩ := u_known (C := RJ15) (T := TJ15) (N := 4) hts in_J15 (hts _ q1543)
  have hKc : ∀ (k : Nat) (q : vw_C), vwCl[k]? = some q → u_Kn s q.1 q.2.1 q.2.2 ([c0, c1, c2, c3, c4, c5, c6, c7, c8, c9, c10, c11, c12, c13, c14, c15, c16, c17, c18, c19, c20].getD k 0) ([i0, i1, i2, i3, i4, i5, i6, i7, i8, i9, i10, i11, i12, i13, i14, i15, i16, i17, i18, i19, i20].getD k (fun _ => 0)) := by
    intro k q hq
    match k, hq with
    | 0, hq => cases hq; exact hk0
    | 1, hq => cases hq; exact hk1
    | 2, hq => cases hq; exact hk2
    | 3, hq => cases hq; exact hk3
    | 4, hq => cases hq; exact hk4
    | 5, hq => cases hq; exact hk5
    | 6, hq => cases hq; exact hk6
    | 7, hq => cases hq; exact hk7
    | 8, hq => cases hq; exact hk8
    | 9, hq => cases hq; exact hk9
    | 10, hq => cases hq; exact hk10
    | 11, hq => cases hq; exact hk11
    | 12, hq => cases hq; exact hk12
    | 13, hq => cases hq; exact hk13
    | 14, hq => cases hq; exact hk14
    | 15, hq => cases hq; exact hk15
    | 16, hq => cases hq; exact hk16
    | 17, hq => cases hq; exact hk17
    | 18, hq => cases hq; exact hk18
    | 19, hq => cases hq; exact hk19
    | 20, hq => cases hq; exact hk20
    | k + 21, hq => simp [vwCl] at hq
  obtain ⟨a0, ha0⟩ := arr_p (ty := .int) (hts _ q190) (fun _ h => by cases h)
  obtain ⟨a1, ha1⟩ := arr_p (ty := .long) (hts _ q273) (fun _ h => by cases h)
  obtain ⟨a2, ha2⟩ := arr_p (ty := .byte) (hts _ q373) (fun _ h => by cases h)
  obtain ⟨a3, ha3⟩ := arr_p (ty := .short) (hts _ q1686) (fun _ h => by cases h)
  obtain ⟨a4, ha4⟩ := arr_p (ty := .boolean) (hts _ q1687) (fun _ h => by cases h)
  obtain ⟨a5, ha5⟩ := arr_o (C := "WholePacks$Rule") (hts0 _ q168)
  obtain ⟨a6, ha6⟩ := arr_o (C := "WholePacks$Cut") (hts0 _ q247)
  obtain ⟨a7, ha7⟩ := arr_o (C := "WholePacks$Left") (hts0 _ q359)
  obtain ⟨a8, ha8⟩ := arr_o (C := "WholePacks$Change") (hts0 _ q361)
  obtain ⟨a9, ha9⟩ := arr_o (C := "WholePacks$Found") (hts0 _ q363)
  obtain ⟨a10, ha10⟩ := arr_o (C := "WholePacks$Node") (hts0 _ q403)
  obtain ⟨a11, ha11⟩ := arr_o (C := "WholePacks$Tape") (hts0 _ q408)
  obtain ⟨a12, ha12⟩ := arr_o (C := "java/lang/Object") (hts0 _ q388)
  obtain ⟨f0, fa0, hf0, hfl0⟩ := site_C (x := ⟨"WholePacks", "<init>", "()V"⟩) (pc := 240) (index := 102) (σ := sgL "lambda$new$0") (hnv _ (nw_1)) rfl hobj rfl
  obtain ⟨f1, fa1, hf1, hfl1⟩ := site_C (x := ⟨"WholePacks", "<init>", "()V"⟩) (pc := 251) (index := 106) (σ := sgL "lambda$new$1") (hnv _ (nw_2)) rfl hobj rfl
  obtain ⟨f2, hf2⟩ := site_M (x := ⟨"WholePacks", "<init>", "()V"⟩) (pc := 263) (index := 107) (σ := sgC "bounds") (hnv _ (nw_3)) rfl hobj (by decide)
  obtain ⟨f3, hf3⟩ := site_M (x := ⟨"WholePacks", "<init>", "()V"⟩) (pc := 275) (index := 111) (σ := sgC "lambda$new$2") (hnv _ (nw_4)) rfl hobj (by decide)
  obtain ⟨f4, hf4⟩ := site_M (x := ⟨"WholePacks", "<init>", "()V"⟩) (pc := 287) (index := 112) (σ := sgC "factors") (hnv _ (nw_5)) rfl hobj (by decide)
  obtain ⟨f5, hf5⟩ := site_M (x := ⟨"WholePacks", "nth", "(I)I"⟩) (pc := 25) (index := 379) (σ := sgK "lambda$nth$3") (hnv _ (nw_6)) rfl hobj (by decide)
  obtain ⟨f6, hf6⟩ := site_M (x := ⟨"WholePacks", "many", "(I)I"⟩) (pc := 20) (index := 392) (σ := sgK "lambda$many$4") (hnv _ (nw_7)) rfl hobj (by decide)
  obtain ⟨f7, hf7⟩ := site_M (x := ⟨"WholePacks", "lost", "(I)I"⟩) (pc := 24) (index := 398) (σ := sgK "lambda$lost$5") (hnv _ (nw_8)) rfl hobj (by decide)
  obtain ⟨mir, hmir⟩ := mir_of (hnv _ nw_m)
  have hWP : WP (fun k => [a0, a1, a2, a3, a4, a5, a6, a7, a8, a9, a10, a11, a12, 0, 0, 0, 0, 0, 0, 0, f0, f1, f2, f3, f4, f5, f6, f7, fa0, fa1, mir].getD k 0) s.heap s := ⟨⟨⟨hf0.lam, hf1.lam, hf2.lam, hf3.lam, hf4.lam, hf5.lam, hf6.lam, hf7.lam⟩, ⟨⟨va_Nw.of rfl (hts0 _ q1156), va_Nw.of rfl (hts0 _ q1155)⟩, ⟨va_Nw.of rfl (hts0 _ q1607), va_Nw.of rfl (hts0 _ q1606)⟩, ⟨va_Nw.of rfl (hts0 _ q1160), va_Nw.of rfl (hts0 _ q1159)⟩⟩, ⟨hf5, hf6, hf7⟩⟩, ⟨hf0, hf1, hf2, hf3, hf4⟩, ⟨va_Fw.of (hts0 _ q1103) (hts0 _ q1102) (hts0 _ q1108) (hts0 _ q1106) (hts0 _ q1104), va_Fw.of (hts0 _ q1103) (hts0 _ q1102) (hts0 _ q1119) (hts0 _ q1117) (hts0 _ q1115), va_Fw.of (hts0 _ q1080) (hts0 _ q1079) (hts0 _ q1085) (hts0 _ q1083) (hts0 _ q1081), va_Fw.of (hts0 _ q1571) (hts0 _ q1570) (hts0 _ q1576) (hts0 _ q1574) (hts0 _ q1572), va_Fw.of (hts0 _ q1581) (hts0 _ q1580) (hts0 _ q1585) (hts0 _ q1583) (hts0 _ q1572), va_Fw.of (hts0 _ q1530) (hts0 _ q1529) (hts0 _ q1535) (hts0 _ q1533) (hts0 _ q1531)⟩, hmir, fun a ha b hb hab => va_Nc.of (hnv _ (nw_n a ha b hb hab)), va_Nc.of (hnv _ nw_c), vx_Zqof (hts0 _ q708) (hts _ q131) (hnv _ nw_s1) (fun a h1 h2 => by omega), vx_Zqof (hts0 _ q710) (hts _ q131) (hnv _ nw_s2) (fun a h1 h2 => by omega)⟩
  refine ⟨((fun k => [c0, c1, c2, c3, c4, c5, c6, c7, c8, c9, c10, c11, c12, c13, c14, c15, c16, c17, c18, c19, c20].getD k 0, fun k => [i0, i1, i2, i3, i4, i5, i6, i7, i8, i9, i10, i11, i12, i13, i14, i15, i16, i17, i18, i19, i20].getD k (fun _ => 0)), fun k => [a0, a1, a2, a3, a4, a5, a6, a7, a8, a9, a10, a11, a12, 0, 0, 0, 0, 0, 0, 0, f0, f1, f2, f3, f4, f5, f6, f7, fa0, fa1, mir].getD k 0, ⟨WP (fun k => [a0, a1, a2, a3, a4, a5, a6, a7, a8, a9, a10, a11, a12, 0, 0, 0, 0, 0, 0, 0, f0, f1, f2, f3, f4, f5, f6, f7, fa0, fa1, mir].getD k 0) s.heap, fun u U hW h => WP.moved hW h⟩, s.heap), ?_⟩
  have hK : KK ((fun k => [c0, c1, c2, c3, c4, c5, c6, c7, c8, c9, c10, c11, c12, c13, c14, c15, c16, c17, c18, c19, c20].getD k 0, fun k => [i0, i1, i2, i3, i4, i5, i6, i7, i8, i9, i10, i11, i12, i13, i14, i15, i16, i17, i18, i19, i20].getD k (fun _ => 0)), fun k => [a0, a1, a2, a3, a4, a5, a6, a7, a8, a9, a10, a11, a12, 0, 0, 0, 0, 0, 0, 0, f0, f1, f2, f3, f4, f5, f6, f7, fa0, fa1, mir].getD k 0, ⟨WP (fun k => [a0, a1, a2, a3, a4, a5, a6, a7, a8, a9, a10, a11, a12, 0, 0, 0, 0, 0, 0, 0, f0, f1, f2, f3, f4, f5, f6, f7, fa0, fa1, mir].getD k 0) s.heap, fun u U hW h => WP.moved hW h⟩, s.heap) s := ⟨⟨hKc, fun t q hq => by
      match t, hq with
      | 0, hq => cases hq; exact ha0
      | 1, hq => cases hq; exact ha1
      | 2, hq => cases hq; exact ha2
      | 3, hq => cases hq; exact ha3
      | 4, hq => cases hq; exact ha4
      | 5, hq => cases hq; exact ha5
      | 6, hq => cases hq; exact ha6
      | 7, hq => cases hq; exact ha7
      | 8, hq => cases hq; exact ha8
      | 9, hq => cases hq; exact ha9
      | 10, hq => cases hq; exact ha10
      | 11, hq => cases hq; exact ha11
      | 12, hq => cases hq; exact ha12
      | t + 13, hq => simp [tyL] at hq⟩, fun w hw hk => by
        have h3 := hts0 w hw
        cases w <;> first | (cases hk; done) | exact va_Nw.of rfl h3, fun C hC => va_AO.of (hts0 _ hC), hWP⟩
  have hP : ∀ U : State, KK ((fun k => [c0, c1, c2, c3, c4, c5, c6, c7, c8, c9, c10, c11, c12, c13, c14, c15, c16, c17, c18, c19, c20].getD k 0, fun k => [i0, i1, i2, i3, i4, i5, i6, i7, i8, i9, i10, i11, i12, i13, i14, i15, i16, i17, i18, i19, i20].getD k (fun _ => 0)), fun k => [a0, a1, a2, a3, a4, a5, a6, a7, a8, a9, a10, a11, a12, 0, 0, 0, 0, 0, 0, 0, f0, f1, f2, f3, f4, f5, f6, f7, fa0, fa1, mir].getD k 0, ⟨WP (fun k => [a0, a1, a2, a3, a4, a5, a6, a7, a8, a9, a10, a11, a12, 0, 0, 0, 0, 0, 0, 0, f0, f1, f2, f3, f4, f5, f6, f7, fa0, fa1, mir].getD k 0) s.heap, fun u U hW h => WP.moved hW h⟩, s.heap) U → WP (fun k => [a0, a1, a2, a3, a4, a5, a6, a7, a8, a9, a10, a11, a12, 0, 0, 0, 0, 0, 0, 0, f0, f1, f2, f3, f4, f5, f6, f7, fa0, fa1, mir].getD k 0) s.heap U := fun U hU => hU.2.2.2
  exact ⟨⟨hx, hb, hml, hown, hts, hK, hX, hbl, Nat.le_refl _, fun U hU => ⟨((hP U hU).zq).1.1, ((hP U hU).zq).2.1⟩, fun U hU => (hP U hU).zq, ⟨fun U hU => (hP U hU).1, hfl0, hfl1⟩, fun U hU => ⟨(hP U hU).2.2.1, (hP U hU).2.2.2.1⟩, fun U hU => (hP U hU).2.2.2.2.1, fun U hU => (hP U hU).2.2.2.2.2.1, hst, Nat.le_refl _⟩, fun z _ => rfl, fun U hU => (hP U hU).2.1⟩
