/-! what G knows of lambdas: classes G.2.1 20 .. 27, the two constant objects G.2.1 28, 29 -/
set_option maxRecDepth 100000
def LKs (G : Gv) (U : State) : Prop :=
  (Lam (sgL "lambda$new$0") (G.2.1 20) U ∧ Lam (sgL "lambda$new$1") (G.2.1 21) U ∧ Lam (sgC "bounds") (G.2.1 22) U ∧ Lam (sgC "lambda$new$2") (G.2.1 23) U ∧ Lam (sgC "factors") (G.2.1 24) U ∧ Lam (sgK "lambda$nth$3") (G.2.1 25) U ∧ Lam (sgK "lambda$many$4") (G.2.1 26) U ∧ Lam (sgK "lambda$lost$5") (G.2.1 27) U) ∧
  (IM yLof U ∧ IM yCdoes U ∧ IM yKgoes U) ∧
  (SF ⟨"WholePacks", "nth", "(I)I"⟩ 25 379 (sgK "lambda$nth$3") (G.2.1 25) (.makes (G.2.1 25)) U ∧ SF ⟨"WholePacks", "many", "(I)I"⟩ 20 392 (sgK "lambda$many$4") (G.2.1 26) (.makes (G.2.1 26)) U ∧ SF ⟨"WholePacks", "lost", "(I)I"⟩ 24 398 (sgK "lambda$lost$5") (G.2.1 27) (.makes (G.2.1 27)) U)
def ZL (G : Gv) : Prop := (∀ U : State, KK G U → LKs G U) ∧ LQ G.2.2.2 (G.2.1 28) (G.2.1 20) [] ∧ LQ G.2.2.2 (G.2.1 29) (G.2.1 21) []
theorem GO.lc {G : Gv} {H : Heap} {q cK : Nat} {vs : List Value} (hO : GO G H) (h : LQ G.2.2.2 q cK vs) : LQ H q cK vs := by
  obtain ⟨mo, ha, h⟩ := h
  exact ⟨mo, ha, (hO q (Array.getElem?_eq_some_iff.mp h).1).trans h⟩
theorem lamc_eq (cA : ClassId) (a : Nat) : vp_cell cA (1, .inr (.inr (.inr (.inr (fun _ => some a))))) = { cls := cA, slots := [Value.ref a].toArray, vm := .none } := rfl
theorem rg_lam {G : Gv} {a n q b : Nat} {sh : Shp} {v : Mem} {H : Heap} {cK : ClassId} (hW : rg G a n sh v H) (o : Nat) (ho : o < n) (hq : q = a + o) (he : sh o a (v.1 o) (v.2.1 o) (v.2.2 o) = some (.inl (cK, 1, .inr (.inr (.inr (.inr (fun _ => some b))))))) : LC H q cK [.ref b] := by
  subst hq
  exact hW o ho _ he
theorem LC.keepq {H H1 : Heap} {q z cK : Nat} {vs : List Value} (h : LC H q cK vs) (oq : ∀ x : Nat, x ≠ z → H1[x]? = H[x]?) (hn : q ≠ z) : LC H1 q cK vs := (oq q hn).trans h
theorem LC.keepA {H H1 : Heap} {q cK : Nat} {vs : List Value} {F : Nat → Prop} (h : LC H q cK vs) (oq : ∀ z : Nat, z < H.size → ¬ (F z ∨ H.size ≤ z) → H1[z]? = H[z]?) (hn : ¬ F q) : LC H1 q cK vs := by
  have hl : q < H.size := (Array.getElem?_eq_some_iff.mp h).1
  exact (oq q hl (fun k => k.elim hn (fun k => by omega))).trans h
/-- a cast of an object to its own class -/
theorem rk_castS {p : Program} {l : Launch} {e : Env} {R : Room} {s : State} {m : MethodId} {args : Array Value} {below : List Frame} {meth : Method} {c : Code} {H : Heap} {locs : List Loc} {cells slots : Nat} {Q : State → Prop} {cc : ByteArray} {pc index a n q ci : Nat} {ls : Array Slot} {rest : List Value} {G : Gv} {own C : String} {sh : Shp} {v : Mem} {fs : List Value} {T : u_T} {N : Nat}
    (hx : p.tables.exec = Jvm.exec) (hb : c.code = cc) (hown : s.vm.findClass own = some m.cls) (hts : ∀ w ∈ lw_all, w.before args s = true) (hK : KK G s) (hlink : Cond.classLink own index C ∈ lw_all) (hW : rg G a n sh v H) (o : Nat) (ho : o < n) (hq : q = a + o) (hc : vwCl[ci]? = some (C, T, N)) (he : sh o a (v.1 o) (v.2.1 o) (v.2.2 o) = some (.inr (ci, fs))) (hdg : decode cc pc = .ok (.checkcast index, 3))
    (k : W p l e R s m args below meth c H locs cells slots Q (F0 m (pc + 3) ls (.ref q :: rest))) : W p l e R s m args below meth c H locs cells slots Q (F0 m pc ls (.ref q :: rest)) :=
  va_castS hx hb hown (hts _ hlink) (hK.1.1 ci _ hc).2 (rk_recv hK hW o ho hq hc he) hdg k
