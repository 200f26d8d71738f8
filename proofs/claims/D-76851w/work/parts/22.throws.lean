/-! NEW CELLS AND EXCEPTIONS: our rows over the kit's -/
set_option maxRecDepth 100000
/-- what a new cell holds -/
def mz : Mem := (fun _ _ => 0, fun _ _ => 0, fun _ _ => none)
/-- a region that new cells leave -/
theorem rg_keepN {G : Gv} {a n h : Nat} {sh : Shp} {v : Mem} {H H1 : Heap} (hW : rg G a n sh v H) (hz : H.size = h) (o1 : ∀ z : Nat, z < h → H1[z]? = H[z]?) : rg G a n sh v H1 :=
  rg_keep hW (fun o _ hl => o1 _ (by omega))
theorem GO_keepN {G : Gv} {H H1 : Heap} {h : Nat} (hO : GO G H) (hb : gB G ≤ h) (o1 : ∀ z : Nat, z < h → H1[z]? = H[z]?) : GO G H1 := fun z hz => (o1 z (by unfold gB at hb; omega)).trans (hO z hz)
/-- the two statics that Throwable's constructor reads: a reference or null each, among the old cells -/
def ZQ (G : Gv) : Prop := ∀ U : State, KK G U → va_Zq "java/lang/Throwable" "UNASSIGNED_STACK" "[Ljava/lang/StackTraceElement;" (fun q => gB G ≤ q) U G.2.2.2 ∧ va_Zq "java/lang/Throwable" "SUPPRESSED_SENTINEL" "Ljava/util/List;" (fun q => gB G ≤ q) U G.2.2.2
section NEWR
variable {p : Program} {l : Launch} {e : Env} {R : Room} {s : State} {m : MethodId} {args : Array Value} {below : List Frame} {meth : Method} {c : Code} {H : Heap} {locs : List Loc} {cells slots : Nat} {Q : State → Prop}
variable {cc : ByteArray} {pc : Nat} {ls : Array Slot} {rest : List Value} {G : Gv} {A : Nat → Prop} {H0 : Heap} {own C : String} {T : u_T} {N ci index h : Nat} {sh : Shp}
theorem rg_one {v : Mem} {e : va_E} (he : sh 0 h (v.1 0) (v.2.1 0) (v.2.2 0) = some e) (h1 : va_at G.1 vwCl (h, e) H) : rg G h 1 sh v H := by
  intro o ho e2 h2
  have h0 : o = 0 := by omega
  subst h0
  rw [he] at h2
  cases h2
  exact h1
theorem rk_new (hx : p.tables.exec = Jvm.exec) (hb : c.code = cc) (hts : ∀ w ∈ lw_all, w.before args s = true) (hown : s.vm.findClass own = some m.cls) (hK : KK G s) (hS : va_S A H0 H locs) (hin : ∀ w ∈ u_ws C T N, w ∈ lw_all) {ty0 : Nat → FieldType} (hT : FT T N ty0) (hc : vwCl[ci]? = some (C, T, N)) (hcl : Cond.classLink own index C ∈ lw_all) (hinst : Cond.instantiable C N ∈ lw_all) (hini : Cond.initialized C ∈ lw_all) (hz : H.size = h) {fs : List Value} (he : sh 0 h (mz.1 0) (mz.2.1 0) (mz.2.2 0) = some (.inr (ci, fs))) (hfs : ∀ j, j < N → defaultValue (ty0 j) = vp_V fs j) (hcells : cells + 1 ≤ R.cells) (hslots : slots + N ≤ R.slots) (hdg : decode cc pc = .ok (.new index, 3))
    (kk : ∀ (H1 : Heap), rg G h 1 sh mz H1 → va_S A H0 H1 locs → H1.size = h + 1 → (∀ z, z < h → H1[z]? = H[z]?) → W p l e R s m args below meth c H1 locs (cells + 1) (slots + N) Q (F0 m (pc + 3) ls (.ref h :: rest))) : W p l e R s m args below meth c H locs cells slots Q (F0 m pc ls rest) := by
  have hKn := hK.1.1 ci _ hc
  refine W.newcK hx hb hown (hts _ hcl) (hts _ hinst) (hts _ hini) rfl hdg hcells hslots hKn.2.1 hz fun H1 kC hkC e1 z1 o1 => ?_
  refine kk H1 (rg_one he ⟨_, hc, (u_born ty0 hts hin hKn hkC e1 hT.1).to hfs⟩) ⟨Nat.le_trans hS.1 (by omega), fun x h1 h2 => (o1 x (by have := hS.1; omega)).trans (hS.2.1 x h1 h2), hS.2.2⟩ z1 o1
theorem rk_newarr (hx : p.tables.exec = Jvm.exec) (hb : c.code = cc) (hts : ∀ w ∈ lw_all, w.before args s = true) (hK : KK G s) (hS : va_S A H0 H locs) {atype : ArrayType} (harr : Cond.arrayClass (newarray.typeOf atype) ∈ lw_all) (t0 : Nat) (ht : (tyL G.2.1)[t0]? = some (G.2.1 t0, newarray.typeOf atype)) (hra : ∀ C, newarray.typeOf atype ≠ .object C) (hz : H.size = h) {n : Int32} {N9 : Nat} {w : vp_A} (he : sh 0 h (mz.1 0) (mz.2.1 0) (mz.2.2 0) = some (.inl (G.2.1 t0, w))) (hw : vp_cell (G.2.1 t0) w = arrV (G.2.1 t0) N9 (fun _ => defaultValue (newarray.typeOf atype))) (hn : ¬ n < 0) (hN : n.toNatClampNeg = N9) (hbytes : N9 * componentBytes (newarray.typeOf atype) ≤ 536870912) (hcells : cells + 1 ≤ R.cells) (hslots : slots + N9 ≤ R.slots) (hdg : decode cc pc = .ok (.newarray atype, 2))
    (kk : ∀ (H1 : Heap), rg G h 1 sh mz H1 → va_S A H0 H1 locs → H1.size = h + 1 → (∀ z, z < h → H1[z]? = H[z]?) → W p l e R s m args below meth c H1 locs (cells + 1) (slots + N9) Q (F0 m (pc + 2) ls (.ref h :: rest))) : W p l e R s m args below meth c H locs cells slots Q (F0 m pc ls (.int n :: rest)) := by
  refine va_newaK hx hb (hts _ harr) rfl hdg rfl hn hN hbytes hcells hslots hz fun H1 cA e1 z1 o1 hAr hNm => ?_
  have hcA : cA = G.2.1 t0 := by
    have h1 := (hK.1.2 t0 _ ht).2
    have h2 : s.vm.findClass ("[" ++ (newarray.typeOf atype).toString) = some (G.2.1 t0) := by
      cases atype <;> exact h1
    exact Option.some.inj (hNm.symm.trans h2)
  subst hcA
  refine kk H1 (rg_one he (show H1[h]? = some (vp_cell _ _) by rw [hw]; exact e1)) ⟨Nat.le_trans hS.1 (by omega), fun x h1 h2 => (o1 x (by have := hS.1; omega)).trans (hS.2.1 x h1 h2), hS.2.2⟩ z1 o1
theorem rk_anew (hx : p.tables.exec = Jvm.exec) (hb : c.code = cc) (hts : ∀ w ∈ lw_all, w.before args s = true) (hown : s.vm.findClass own = some m.cls) (hK : KK G s) (hS : va_S A H0 H locs) (hcl : Cond.classLink own index C ∈ lw_all) (hov : Cond.arrayOver (.object C) ∈ lw_tbl) (t0 : Nat) (ht : (tyL G.2.1)[t0]? = some (G.2.1 t0, .object C)) (hz : H.size = h) {n : Int32} {N9 : Nat} (he : sh 0 h (mz.1 0) (mz.2.1 0) (mz.2.2 0) = some (.inl (G.2.1 t0, N9, .inr (.inr (.inr (.inr (fun _ => none))))))) (hn : ¬ n < 0) (hN : n.toNatClampNeg = N9) (hbytes : N9 * 4 ≤ 536870912) (hcells : cells + 1 ≤ R.cells) (hslots : slots + N9 ≤ R.slots) (hdg : decode cc pc = .ok (.anewarray index, 3))
    (kk : ∀ (H1 : Heap), rg G h 1 sh mz H1 → va_S A H0 H1 locs → H1.size = h + 1 → (∀ z, z < h → H1[z]? = H[z]?) → W p l e R s m args below meth c H1 locs (cells + 1) (slots + N9) Q (F0 m (pc + 3) ls (.ref h :: rest))) : W p l e R s m args below meth c H locs cells slots Q (F0 m pc ls (.int n :: rest)) := by
  subst hN
  subst hz
  refine W.anew hx hb hown (hts _ hcl) (va_AO.use (hK.2.2.1 C hov)) rfl hdg rfl hn hbytes hcells hslots fun cA kA comp f1 f2 f3 f4 => ?_
  obtain ⟨kA2, comp2, -, -, -, g4⟩ := (hK.1.2 t0 _ ht).2
  have hcA : cA = G.2.1 t0 := Option.some.inj (f1.symm.trans g4)
  subst hcA
  generalize hH1 : H.push ({ cls := G.2.1 t0, slots := Array.replicate n.toNatClampNeg .null, vm := .none } : Cell) = H1
  have z1 : H1.size = H.size + 1 := by rw [← hH1, Array.size_push]
  have e1 : H1[H.size]? = some (arrV (G.2.1 t0) n.toNatClampNeg (fun _ => .null)) := by rw [← hH1, Array.getElem?_push_size, ← arrV_new]
  have o1 : ∀ q : Nat, q < H.size → H1[q]? = H[q]? := fun q hq => by rw [← hH1, Array.getElem?_push, if_neg (Nat.ne_of_lt hq)]
  exact kk H1 (rg_one he (show H1[H.size]? = some (vp_cell _ _) by rw [vp_cell_q]; exact e1)) ⟨Nat.le_trans hS.1 (by omega), fun x h1 h2 => (o1 x (by have := hS.1; omega)).trans (hS.2.1 x h1 h2), hS.2.2⟩ z1 o1
/-- a static of the old world that is a reference or null -/
theorem rk_getsq (hx : p.tables.exec = Jvm.exec) (hb : c.code = cc) {C n d : String} (hts : ∀ w ∈ lw_all, w.before args s = true) (hZ : va_Zq C n d (fun q => gB G ≤ q) s G.2.2.2) (hO : GO G H) (hown : s.vm.findClass own = some m.cls) (hlink : Cond.fieldLink own index C n d ∈ lw_all) (hdg : decode cc pc = .ok (.getstatic index, 3))
    (kk : ∀ z : Option Nat, W p l e R s m args below meth c H locs cells slots Q (F0 m (pc + 3) ls (va_rf z :: rest))) : W p l e R s m args below meth c H locs cells slots Q (F0 m pc ls rest) := by
  have hZ2 : ∃ z : Option Nat, va_Z C n d (va_rf z) (fun q => gB G ≤ q) s G.2.2.2 := by
    rcases hZ with h | ⟨t, h⟩
    · exact ⟨none, h⟩
    · exact ⟨some t, h⟩
  obtain ⟨z, cf, kf, fi, f, a, cell, h1, h2, h3, h4, h5, h6, h7, h8⟩ := hZ2
  exact W.gets hx hb hown (hts _ hlink) h1 h2 h3 h4 (by rw [hO a (Array.getElem?_eq_some_iff.mp h5).1]; exact h5) (fun e => by rw [e] at h6; cases h6) h7 rfl hdg (kk z)
end NEWR
theorem rf_nar (ty : FieldType) (hr : ty.isReference = true) (z : Option Nat) : narrow ty (va_rf z) = va_rf z := by
  cases ty <;> first | (cases hr; done) | (cases z <;> rfl)
theorem rf_fit (ty : FieldType) (hr : ty.isReference = true) (z : Option Nat) : fits ty (va_rf z) = true := by
  cases ty <;> first | (cases hr; done) | (cases z <;> rfl)
/-- a region's end lies in the heap -/
theorem rg_end {G : Gv} {a n : Nat} {sh : Shp} {v : Mem} {H : Heap} (hW : rg G a n sh v H) (o : Nat) (ho : o < n) (hn : o + 1 = n) (hs : ∀ x y z, (sh o a x y z).isSome = true) : a + n ≤ H.size := by
  have h := hs (v.1 o) (v.2.1 o) (v.2.2 o)
  cases he : sh o a (v.1 o) (v.2.1 o) (v.2.2 o) with
  | none => rw [he] at h; cases h
  | some e => have := rg_lt hW ho he; omega
/-! a method that may throw: rok says which of the two it does -/
def QcX (rok : Bool) (A : Nat → Prop) (Post : Option Value → Heap → Prop) : Array Value → State → Outcome → State → Prop := fun a st o t => rok = true ∧ QcT A Post a st o t
def XcX (rok : Bool) (A : Nat → Prop) (PostX : Addr → String → Heap → Prop) : Addr → String → State → State → Prop := fun q E st t => rok = false ∧ PostX q E t.heap ∧ va_F A st t
def CX (G : Gv) (l : Launch) (y : MethodName) (ws : List Cond) (fr mc ms lo : Nat) (av : List Value) (FP : Nat → Prop) (sz : Nat) (Pre : Heap → Prop) (rok : Bool) (Post : Option Value → Heap → Prop) (PostX : Addr → String → Heap → Prop) : Prop :=
  vx_Met l y ws (rmT fr mc ms lo) (PcK G av (fun H => H.size = sz ∧ Pre H)) (QcX rok (FA FP sz) Post) (XcX rok (FA FP sz) PostX) mc ms (FA FP sz)
theorem CX.ret {G : Gv} {l : Launch} {y : MethodName} {ws : List Cond} {fr mc ms lo : Nat} {av : List Value} {FP : Nat → Prop} {sz : Nat} {Pre : Heap → Prop} {Post : Option Value → Heap → Prop} {PostX : Addr → String → Heap → Prop} (h : CX G l y ws fr mc ms lo av FP sz Pre true Post PostX) : CT G l y ws fr mc ms lo av FP sz Pre Post := by
  intro p e ha hc hk s m args below hf happ hP hK
  obtain ⟨n, o, h1, h2, h3, h4⟩ := h p e ha hc hk s m args below hf happ hP hK
  refine ⟨n, o, h1, h2, h3, ?_⟩
  rcases h4 with ⟨⟨-, q⟩, hL⟩ | ⟨z, -, E, ce, L, ⟨h1, -⟩, -⟩
  · exact ⟨q, hL⟩
  · cases h1
section XROWS
variable {p : Program} {l : Launch} {e : Env} {R : Room} {s : State} {m : MethodId} {args : Array Value} {below : List Frame} {meth : Method} {c : Code} {H : Heap} {locs : List Loc} {cells slots : Nat} {Q : State → Prop}
variable {cc bytes : ByteArray} {pc nL maxL index n fr lo mc ms sz : Nat} {ls : Array Slot} {rest st0 As : List Value} {G : Gv} {A A0 : Nat → Prop} {H0 : Heap} {own C host : String} {y : MethodName} {ret : Option FieldType} {b : Nat} {Pre : Heap → Prop} {FP : Nat → Prop} {Post : Option Value → Heap → Prop} {PostX : Addr → String → Heap → Prop}
/-- a call that throws, for sure -/
theorem rk_backX {a : Array Value} (hr : vx_Run p l e R s m args below meth c H locs cells slots mc ms (F0 m pc ls st0) rest (QcX false (FA FP H.size) Post a) (XcX false (FA FP H.size) PostX) (FA FP H.size)) (hS : va_S A0 H0 H locs) (hf : ∀ q, FP q → A0 q) (hA : ∀ q, H0.size ≤ q → A0 q)
    (kx : ∀ (q : Addr) (E : String) (ce : Cell) (H1 : Heap) (locs1 : List Loc), PostX q E H1 → (∀ z : Nat, z < H.size → ¬ (FP z ∨ H.size ≤ z) → H1[z]? = H[z]?) → va_S A0 H0 H1 locs1 → H1[q]? = some ce → ce.vm = .none → s.vm.findClass E = some ce.cls → vx_W p l e R s m args below meth c H1 locs1 (cells + mc) (slots + ms) Q (F0 m pc ls rest) q) : W p l e R s m args below meth c H locs cells slots Q (F0 m pc ls st0) := by
  have hf2 : ∀ q, FA FP H.size q → A0 q := fun q h => h.elim (hf q) (fun h => hA q (Nat.le_trans hS.1 h))
  intro T hT X
  rcases hr T hT X with ⟨v, st₀, t, T', L, h0, X', hL, e1, e2, ⟨h1, -⟩, st⟩ | ⟨q, st₀, t, T', L, E, ce, h0, X', hL, e1, e2, ⟨-, hp, hF⟩, hce, hcv, hcl, st⟩
  · cases h1
  · obtain ⟨k1, k2, k3⟩ := vx_keep h0 e1 hS (fun q _ h => hf2 q h) hf2 hL hF
    obtain ⟨t2, a1, b1⟩ := kx q E ce T'.heap (locs ++ L) (by rw [e1]; exact hp) k2 k3 (by rw [e1]; exact hce) hcv hcl T' rfl X'
    exact ⟨t2, st.trans a1, b1⟩
theorem rk_XV (hx : p.tables.exec = Jvm.exec) (hb : c.code = cc) (hml : c.maxLocals = nL) (hown : s.vm.findClass own = some m.cls) (hts : ∀ w ∈ lw_all, w.before args s = true) (hK : KK G s) (hS : va_S A0 H0 H locs) (hA : ∀ q, H0.size ≤ q → A0 q) (hw : LV own index C y bytes maxL ret) (hyC : y.cls = C) (hy : YN y n) (hM : CX G l y (ws_ y bytes maxL ret) fr mc ms lo (.ref b :: As) FP H.size Pre false Post PostX) (hR : fr + 1 ≤ R.frames ∧ 8 + (maxL + 11) + lo ≤ R.locals) (hf2 : ∀ q, FP q → A0 q) (hrc : RcV s H C b) (hp : Pre H) (hst : st0 = As.reverse ++ .ref b :: rest) (hn : As.length = n) (hls : ls.size = nL) (hrest : (rest.map fun v => v.category).sum ≤ 8) (hdg : decode cc pc = .ok (.invokevirtual index, 3)) (hf : cells + mc ≤ R.cells ∧ slots + ms ≤ R.slots)
    (kx : ∀ (q : Addr) (E : String) (ce : Cell) (H1 : Heap) (locs1 : List Loc), PostX q E H1 → (∀ z : Nat, z < H.size → ¬ (FP z ∨ H.size ≤ z) → H1[z]? = H[z]?) → va_S A0 H0 H1 locs1 → H1[q]? = some ce → ce.vm = .none → s.vm.findClass E = some ce.cls → vx_W p l e R s m args below meth c H1 locs1 (cells + mc) (slots + ms) Q (F0 m pc ls rest) q) : W p l e R s m args below meth c H locs cells slots Q (F0 m pc ls st0) :=
  rk_backX (vx_runV (Ts := lw_all) ⟨hx, hb, hml, hown, hts⟩ hM (rk_cwV hts hw hyC hy hR) ⟨PcK.blind, hrc, rk_pre hK ⟨rfl, hp⟩⟩ rfl hn hls hst (lv_room hrest) hdg hf) hS hf2 hA kx
theorem rk_XVN (hx : p.tables.exec = Jvm.exec) (hb : c.code = cc) (hml : c.maxLocals = nL) (hown : s.vm.findClass own = some m.cls) (hts : ∀ w ∈ lw_all, w.before args s = true) (hK : KK G s) (hS : va_S A0 H0 H locs) (hA : ∀ q, H0.size ≤ q → A0 q) (hw : LVN own index C y host bytes maxL ret) (hy : YN y n) (hM : CX G l y (ws_ y bytes maxL ret) fr mc ms lo (.ref b :: As) FP H.size Pre false Post PostX) (hR : fr + 1 ≤ R.frames ∧ 8 + (maxL + 11) + lo ≤ R.locals) (hf2 : ∀ q, FP q → A0 q) (hrc : RcV s H C b) (hp : Pre H) (hst : st0 = As.reverse ++ .ref b :: rest) (hn : As.length = n) (hls : ls.size = nL) (hrest : (rest.map fun v => v.category).sum ≤ 8) (hdg : decode cc pc = .ok (.invokevirtual index, 3)) (hf : cells + mc ≤ R.cells ∧ slots + ms ≤ R.slots)
    (kx : ∀ (q : Addr) (E : String) (ce : Cell) (H1 : Heap) (locs1 : List Loc), PostX q E H1 → (∀ z : Nat, z < H.size → ¬ (FP z ∨ H.size ≤ z) → H1[z]? = H[z]?) → va_S A0 H0 H1 locs1 → H1[q]? = some ce → ce.vm = .none → s.vm.findClass E = some ce.cls → vx_W p l e R s m args below meth c H1 locs1 (cells + mc) (slots + ms) Q (F0 m pc ls rest) q) : W p l e R s m args below meth c H locs cells slots Q (F0 m pc ls st0) :=
  rk_backX (vx_runVN (Ts := lw_all) ⟨hx, hb, hml, hown, hts⟩ hM ⟨rk_cnB hts hK hw.1 hw.2.2.2.1 hw.2.2.2.2 hy hR, hts _ hw.2.1, hts _ hw.2.2.1⟩ ⟨PcK.blind, hrc, rk_pre hK ⟨rfl, hp⟩⟩ rfl hn hls hst (lv_room hrest) hdg hf) hS hf2 hA kx
/-- the exception's cell, by its region -/
theorem rk_exc {q ci : Nat} {shE : Shp} {w : Mem} {fs : List Value} {T : u_T} {N : Nat} (hK : KK G s) (hW : rg G q 1 shE w H) (hc : vwCl[ci]? = some (C, T, N)) (he : shE 0 q (w.1 0) (w.2.1 0) (w.2.2 0) = some (.inr (ci, fs))) : ∃ ce : Cell, H[q]? = some ce ∧ ce.vm = .none ∧ s.vm.findClass C = some ce.cls := by
  obtain ⟨r, h1, cell, q1, q2, q3, -⟩ := hW 0 (by decide) _ he
  have hr : r = (C, T, N) := Option.some.inj (h1.symm.trans hc)
  subst hr
  exact ⟨cell, q1, q3, by rw [q2]; exact (hK.1.1 ci _ hc).2.1⟩
/-- it leaves the method -/
theorem rk_xout {q : Addr} {E : String} {ce : Cell} (hex : ∀ x ∈ c.exceptionTable.toList, covers x pc = false) (hlk : meth.locks = false) (hS : va_S A s.heap H locs) (hce : H[q]? = some ce) (hv : ce.vm = .none) (hcl : s.vm.findClass E = some ce.cls) (hP : PostX q E H) (hc : cells ≤ mc) (hs : slots ≤ ms) :
    vx_W p l e R s m args below meth c H locs cells slots (vx_MQ below (QcX false A Post) (XcX false A PostX) args s mc ms A) (F0 m pc ls rest) q :=
  vx_out hex hlk hce hv hcl (fun t ht _ => ⟨rfl, by rw [ht]; exact hP, hS.F ht⟩) hS.2.2 hc hs
theorem rk_widen {k n : Nat} {g : JFrame} (h1 : cells ≤ k) (h2 : slots ≤ n) (kk : W p l e R s m args below meth c H locs k n Q g) : W p l e R s m args below meth c H locs cells slots Q g := fun T hT X => kk T hT (stand_widen X h1 h2)
theorem rk_vretX (hx : p.tables.exec = Jvm.exec) (hb : c.code = cc) (hr : meth.sig.returnType = none) (hlk : meth.locks = false) (hS : va_S A s.heap H locs) (hP : Post (none) H) (hdg : decode cc pc = .ok (.return_, 1)) (hc : cells ≤ mc) (hs : slots ≤ ms) : W p l e R s m args below meth c H locs cells slots (vx_MQ below (QcX true A Post) (XcX true A PostX) args s mc ms A) (F0 m pc ls []) :=
  rk_widen hc hs (vx_ret (W.vret hx hb hr (fun t ht _ => ⟨rfl, ⟨_, rfl, by rw [ht]; exact hP⟩, hS.F ht⟩) hS.2.2 hdg hlk))
theorem rk_vretA (hx : p.tables.exec = Jvm.exec) (hb : c.code = cc) (hr : meth.sig.returnType = none) (hlk : meth.locks = false) (hS : va_S A s.heap H locs) (hP : Post (none) H) (hdg : decode cc pc = .ok (.return_, 1)) (hc : cells ≤ mc) (hs : slots ≤ ms) : W p l e R s m args below meth c H locs cells slots (MQ below (QcT A Post) args s mc ms A) (F0 m pc ls []) :=
  rk_widen hc hs (W.vret hx hb hr (fun t ht _ => ⟨⟨_, rfl, by rw [ht]; exact hP⟩, hS.F ht⟩) hS.2.2 hdg hlk)
theorem rk_iretX {x : Int32} (hx : p.tables.exec = Jvm.exec) (hb : c.code = cc) (hr : meth.sig.returnType = some .int) (hlk : meth.locks = false) (hS : va_S A s.heap H locs) (hP : Post (some (.int x)) H) (hdg : decode cc pc = .ok (.ireturn, 1)) (hc : cells ≤ mc) (hs : slots ≤ ms) : W p l e R s m args below meth c H locs cells slots (vx_MQ below (QcX true A Post) (XcX true A PostX) args s mc ms A) (F0 m pc ls [.int x]) :=
  rk_widen hc hs (vx_ret (W.iret hx hb hr (fun t ht _ => ⟨rfl, ⟨_, rfl, by rw [ht]; exact hP⟩, hS.F ht⟩) hS.2.2 hdg hlk))
theorem rk_iretA {x : Int32} (hx : p.tables.exec = Jvm.exec) (hb : c.code = cc) (hr : meth.sig.returnType = some .int) (hlk : meth.locks = false) (hS : va_S A s.heap H locs) (hP : Post (some (.int x)) H) (hdg : decode cc pc = .ok (.ireturn, 1)) (hc : cells ≤ mc) (hs : slots ≤ ms) : W p l e R s m args below meth c H locs cells slots (MQ below (QcT A Post) args s mc ms A) (F0 m pc ls [.int x]) :=
  rk_widen hc hs (W.iret hx hb hr (fun t ht _ => ⟨⟨_, rfl, by rw [ht]; exact hP⟩, hS.F ht⟩) hS.2.2 hdg hlk)
theorem rk_zretX {x : Int32} (hx : p.tables.exec = Jvm.exec) (hb : c.code = cc) (hr : meth.sig.returnType = some .boolean) (hlk : meth.locks = false) (hz : z01 x = true) (hS : va_S A s.heap H locs) (hP : Post (some (.int x)) H) (hdg : decode cc pc = .ok (.ireturn, 1)) (hc : cells ≤ mc) (hs : slots ≤ ms) : W p l e R s m args below meth c H locs cells slots (vx_MQ below (QcX true A Post) (XcX true A PostX) args s mc ms A) (F0 m pc ls [.int x]) :=
  rk_widen hc hs (vx_ret (W.zret hx hb hr (z01_nar hz) (fun t ht _ => ⟨rfl, ⟨_, rfl, by rw [ht]; exact hP⟩, hS.F ht⟩) hS.2.2 hdg hlk))
theorem rk_zretA {x : Int32} (hx : p.tables.exec = Jvm.exec) (hb : c.code = cc) (hr : meth.sig.returnType = some .boolean) (hlk : meth.locks = false) (hz : z01 x = true) (hS : va_S A s.heap H locs) (hP : Post (some (.int x)) H) (hdg : decode cc pc = .ok (.ireturn, 1)) (hc : cells ≤ mc) (hs : slots ≤ ms) : W p l e R s m args below meth c H locs cells slots (MQ below (QcT A Post) args s mc ms A) (F0 m pc ls [.int x]) :=
  rk_widen hc hs (W.zret hx hb hr (z01_nar hz) (fun t ht _ => ⟨⟨_, rfl, by rw [ht]; exact hP⟩, hS.F ht⟩) hS.2.2 hdg hlk)
theorem rk_lretX {x : Int64} (hx : p.tables.exec = Jvm.exec) (hb : c.code = cc) (hr : meth.sig.returnType = some .long) (hlk : meth.locks = false) (hS : va_S A s.heap H locs) (hP : Post (some (.long x)) H) (hdg : decode cc pc = .ok (.lreturn, 1)) (hc : cells ≤ mc) (hs : slots ≤ ms) : W p l e R s m args below meth c H locs cells slots (vx_MQ below (QcX true A Post) (XcX true A PostX) args s mc ms A) (F0 m pc ls [.long x]) :=
  rk_widen hc hs (vx_ret (W.lret hx hb hr (fun t ht _ => ⟨rfl, ⟨_, rfl, by rw [ht]; exact hP⟩, hS.F ht⟩) hS.2.2 hdg hlk))
theorem rk_lretA {x : Int64} (hx : p.tables.exec = Jvm.exec) (hb : c.code = cc) (hr : meth.sig.returnType = some .long) (hlk : meth.locks = false) (hS : va_S A s.heap H locs) (hP : Post (some (.long x)) H) (hdg : decode cc pc = .ok (.lreturn, 1)) (hc : cells ≤ mc) (hs : slots ≤ ms) : W p l e R s m args below meth c H locs cells slots (MQ below (QcT A Post) args s mc ms A) (F0 m pc ls [.long x]) :=
  rk_widen hc hs (W.lret hx hb hr (fun t ht _ => ⟨⟨_, rfl, by rw [ht]; exact hP⟩, hS.F ht⟩) hS.2.2 hdg hlk)
theorem rk_aretX {x : Nat} {rt : FieldType} (hx : p.tables.exec = Jvm.exec) (hb : c.code = cc) (hr : meth.sig.returnType = some rt) (hrt : (∃ n, rt = .object n) ∨ ∃ t, rt = .array t) (hlk : meth.locks = false) (hS : va_S A s.heap H locs) (hP : Post (some (.ref x)) H) (hdg : decode cc pc = .ok (.areturn, 1)) (hc : cells ≤ mc) (hs : slots ≤ ms) : W p l e R s m args below meth c H locs cells slots (vx_MQ below (QcX true A Post) (XcX true A PostX) args s mc ms A) (F0 m pc ls [.ref x]) :=
  rk_widen hc hs (vx_ret (W.aret hx hb hr hrt (Or.inr ⟨_, rfl⟩) (fun t ht _ => ⟨rfl, ⟨_, rfl, by rw [ht]; exact hP⟩, hS.F ht⟩) hS.2.2 hdg hlk))
theorem rk_aretA {x : Nat} {rt : FieldType} (hx : p.tables.exec = Jvm.exec) (hb : c.code = cc) (hr : meth.sig.returnType = some rt) (hrt : (∃ n, rt = .object n) ∨ ∃ t, rt = .array t) (hlk : meth.locks = false) (hS : va_S A s.heap H locs) (hP : Post (some (.ref x)) H) (hdg : decode cc pc = .ok (.areturn, 1)) (hc : cells ≤ mc) (hs : slots ≤ ms) : W p l e R s m args below meth c H locs cells slots (MQ below (QcT A Post) args s mc ms A) (F0 m pc ls [.ref x]) :=
  rk_widen hc hs (W.aret hx hb hr hrt (Or.inr ⟨_, rfl⟩) (fun t ht _ => ⟨⟨_, rfl, by rw [ht]; exact hP⟩, hS.F ht⟩) hS.2.2 hdg hlk)
/-! handlers -/
theorem rk_catch {q : Addr} {E name : String} {ce : Cell} {hh : List (Nat × Nat × Nat × Nat)} (hK : KK G s) (hown : s.vm.findClass own = some m.cls) (hts : ∀ w ∈ lw_all, w.before args s = true) (ht : c.exceptionTable.toList = tableOf hh) (pre : List ExceptionTableEntry) (x : ExceptionTableEntry) (suf : List ExceptionTableEntry) (hsplit : tableOf hh = pre ++ x :: suf) (hpass : ∀ z ∈ pre, covers z pc = false) (hx : covers x pc = true) (h0 : x.catchType ≠ 0) (hlink : Cond.classLink own x.catchType name ∈ lw_all) (hcast : Cond.castable E name ∈ lw_tbl) (hcell : H[q]? = some ce) (hv : ce.vm = .none) (hcl : s.vm.findClass E = some ce.cls) (t : Nat) (hpc : x.handlerPc = t)
    (kk : W p l e R s m args below meth c H locs cells slots Q (F0 m t ls [.ref q])) : vx_W p l e R s m args below meth c H locs cells slots Q (F0 m pc ls rest) q := by
  subst hpc
  exact vx_catch hown pre x suf (ht.trans hsplit) (fun z hz => Or.inl (hpass z hz)) hx h0 (hts _ hlink) (va_Nw.use rfl (hK.nw hcast rfl)) hcell hv hcl kk
theorem rk_catchA {q : Addr} {E : String} {ce : Cell} {hh : List (Nat × Nat × Nat × Nat)} (hown : s.vm.findClass own = some m.cls) (ht : c.exceptionTable.toList = tableOf hh) (pre : List ExceptionTableEntry) (x : ExceptionTableEntry) (suf : List ExceptionTableEntry) (hsplit : tableOf hh = pre ++ x :: suf) (hpass : ∀ z ∈ pre, covers z pc = false) (hx : covers x pc = true) (h0 : x.catchType = 0) (hcell : H[q]? = some ce) (hv : ce.vm = .none) (hcl : s.vm.findClass E = some ce.cls) (t : Nat) (hpc : x.handlerPc = t)
    (kk : W p l e R s m args below meth c H locs cells slots Q (F0 m t ls [.ref q])) : vx_W p l e R s m args below meth c H locs cells slots Q (F0 m pc ls rest) q := by
  subst hpc
  intro T hT X
  obtain ⟨vm', X', st⟩ := X.thenCaughtThrough q (g := F0 m pc ls rest) rfl (Steps.refl _) (by rw [hT]; exact hcell) (by rw [hv]; rfl) (by obtain ⟨k9, h9, -⟩ := Vm.findClass_spec hcl; exact ⟨k9, h9⟩) pre x suf (ht.trans hsplit)
    (fun z hz => Or.inl (hpass z hz)) hx (Or.inl h0)
  obtain ⟨t, a1, b1⟩ := kk (T.setVm vm') hT X'
  exact ⟨t, st.trans a1, b1⟩
/-! calls of methods with handlers -/
def LVW (own : String) (index : Nat) (C : String) (y : MethodName) (bytes : ByteArray) (maxL : Nat) (ret : Option FieldType) (hh : List (Nat × Nat × Nat × Nat)) : Prop := Cond.methodLink own index y ∈ lw_all ∧ Cond.instanceMethod y ∈ lw_all ∧ Cond.selects C y y ∈ lw_all ∧ Cond.initialized C ∈ lw_all ∧ Cond.codeWith y bytes maxL ret hh ∈ lw_all
theorem rk_cwVW {hh : List (Nat × Nat × Nat × Nat)} {rm : Room} (hts : ∀ w ∈ lw_all, w.before args s = true) (hw : LVW own index C y bytes maxL ret hh) (hyC : y.cls = C) (hy : YN y n) (hR : rm.frames + 1 ≤ R.frames ∧ 8 + (maxL + 11) + rm.locals ≤ R.locals) : vx_CVW R s args own C index y bytes maxL ret hh (wsW_ y bytes maxL ret hh) rm rm.cells rm.slots n :=
  vx_cwVW n hts (lw_VW hw.1 hw.2.1 hw.2.2.1 hw.2.2.2.1 hw.2.2.2.2) rfl rfl rfl ⟨hyC, hy⟩ hR
theorem rk_TVW {hh : List (Nat × Nat × Nat × Nat)} (hx : p.tables.exec = Jvm.exec) (hb : c.code = cc) (hml : c.maxLocals = nL) (hown : s.vm.findClass own = some m.cls) (hts : ∀ w ∈ lw_all, w.before args s = true) (hK : KK G s) (hS : va_S A0 H0 H locs) (hA : ∀ q, H0.size ≤ q → A0 q) (hw : LVW own index C y bytes maxL ret hh) (hyC : y.cls = C) (hy : YN y n) (hM : CT G l y (wsW_ y bytes maxL ret hh) fr mc ms lo (.ref b :: As) FP H.size Pre Post) (hR : fr + 1 ≤ R.frames ∧ 8 + (maxL + 11) + lo ≤ R.locals) (hf2 : ∀ q, FP q → A0 q) (hrc : RcV s H C b) (hp : Pre H) (hst : st0 = As.reverse ++ .ref b :: rest) (hn : As.length = n) (hls : ls.size = nL) (hrest : (rest.map fun v => v.category).sum ≤ 8) (hdg : decode cc pc = .ok (.invokevirtual index, 3)) (hf : cells + mc ≤ R.cells ∧ slots + ms ≤ R.slots)
    (kk : ∀ (ov : Option Value) (H1 : Heap) (locs1 : List Loc), Post ov H1 → (∀ q : Nat, q < H.size → ¬ (FP q ∨ H.size ≤ q) → H1[q]? = H[q]?) → va_S A0 H0 H1 locs1 → W p l e R s m args below meth c H1 locs1 (cells + mc) (slots + ms) Q (F0 m (pc + 3) ls (ov.toList ++ rest))) : W p l e R s m args below meth c H locs cells slots Q (F0 m pc ls st0) :=
  rk_backT (vx_runVW (Ts := lw_all) ⟨hx, hb, hml, hown, hts⟩ hM (rk_cwVW hts hw hyC hy hR) ⟨PcK.blind, hrc, rk_pre hK ⟨rfl, hp⟩⟩ rfl hn hls hst (lv_room hrest) hdg hf) hS hf2 hA kk
theorem rk_XVW {hh : List (Nat × Nat × Nat × Nat)} (hx : p.tables.exec = Jvm.exec) (hb : c.code = cc) (hml : c.maxLocals = nL) (hown : s.vm.findClass own = some m.cls) (hts : ∀ w ∈ lw_all, w.before args s = true) (hK : KK G s) (hS : va_S A0 H0 H locs) (hA : ∀ q, H0.size ≤ q → A0 q) (hw : LVW own index C y bytes maxL ret hh) (hyC : y.cls = C) (hy : YN y n) (hM : CX G l y (wsW_ y bytes maxL ret hh) fr mc ms lo (.ref b :: As) FP H.size Pre false Post PostX) (hR : fr + 1 ≤ R.frames ∧ 8 + (maxL + 11) + lo ≤ R.locals) (hf2 : ∀ q, FP q → A0 q) (hrc : RcV s H C b) (hp : Pre H) (hst : st0 = As.reverse ++ .ref b :: rest) (hn : As.length = n) (hls : ls.size = nL) (hrest : (rest.map fun v => v.category).sum ≤ 8) (hdg : decode cc pc = .ok (.invokevirtual index, 3)) (hf : cells + mc ≤ R.cells ∧ slots + ms ≤ R.slots)
    (kx : ∀ (q : Addr) (E : String) (ce : Cell) (H1 : Heap) (locs1 : List Loc), PostX q E H1 → (∀ z : Nat, z < H.size → ¬ (FP z ∨ H.size ≤ z) → H1[z]? = H[z]?) → va_S A0 H0 H1 locs1 → H1[q]? = some ce → ce.vm = .none → s.vm.findClass E = some ce.cls → vx_W p l e R s m args below meth c H1 locs1 (cells + mc) (slots + ms) Q (F0 m pc ls rest) q) : W p l e R s m args below meth c H locs cells slots Q (F0 m pc ls st0) :=
  rk_backX (vx_runVX (Ts := lw_all) ⟨hx, hb, hml, hown, hts⟩ hM (rk_cwVW hts hw hyC hy hR) ⟨PcK.blind, hrc, rk_pre hK ⟨rfl, hp⟩⟩ rfl hn hls hst (lv_room hrest) hdg hf) hS hf2 hA kx
/-- a call from a deep stack -/
theorem rk_PVb {ov : Option Value} (hx : p.tables.exec = Jvm.exec) (hb : c.code = cc) (hml : c.maxLocals = nL) (hown : s.vm.findClass own = some m.cls) (hts : ∀ w ∈ lw_all, w.before args s = true) (hK : KK G s) (hw : LV own index C y bytes maxL ret) (hyC : y.cls = C) (hy : YN y n) (hM : CP G l y (ws_ y bytes maxL ret) fr lo (.ref b :: As) Pre ov) (hR : fr + 1 ≤ R.frames ∧ 16 + (maxL + 11) + lo ≤ R.locals) (hrc : RcV s H C b) (hp : Pre H) (hst : st0 = As.reverse ++ .ref b :: rest) (hn : As.length = n) (hls : ls.size = nL) (hrest : (rest.map fun v => v.category).sum ≤ 16) (hdg : decode cc pc = .ok (.invokevirtual index, 3)) (hf : cells ≤ R.cells ∧ slots ≤ R.slots)
    (kk : W p l e R s m args below meth c H locs cells slots Q (F0 m (pc + 3) ls (ov.toList ++ rest))) : W p l e R s m args below meth c H locs cells slots Q (F0 m pc ls st0) := by
  have cw := rk_cwV (rm := rmP fr lo) (R := R) hts hw hyC hy ⟨hR.1, by have := hR.2; show 8 + (maxL + 11) + lo ≤ R.locals; omega⟩
  obtain ⟨⟨hrc9, hrs9, hfr, hlo, hws, hcw, hcode, hini, hy9, hlen, hl⟩, hin, hse⟩ := cw
  have hKb : Back l R p e below s args y 3 16 (PreOf R 0 0 (PcK G (.ref b :: As) Pre)) (PostOf (QcP ov) 0 0 (fun _ => False)) := back_of (bytes := bytes) (maxL := maxL) (ret := ret) hM PcK.blind rfl rfl hR.1 hR.2 hws hcw (fun a' U hW => word_at hW (Or.inl (by first | rfl | simp [Cond.onTables, Cond.keeps, Cond.steady])) hini)
  obtain ⟨cellB, hcB, hoB, hclB⟩ := hrc
  refine rk_backP (a := (Value.ref b :: As).toArray) ?_ kk
  intro T hT X
  obtain ⟨v, vm₁, ⟨U', l2, c2, s2⟩, hW₁, X', ⟨g', mk, t, L, e1, e2, hq, h1, hL, h2, h3⟩, st⟩ := callV X hx (C := C) (bytes := bytes) (maxL := maxL) (ret := ret) hown hl hin hse hcode hy9 hKb (by rw [hT]; exact hcB) hoB hclB (g := F0 m pc ls st0) rfl (hls.trans hml.symm) (argsL := As) (rest := rest) (fun sig h => hn.trans (hlen sig h)) hst (by show 2 * 0 + _ ≤ 16; omega) (by rw [hb]; exact hdg)
    (fun vm₁ hW₁ => ⟨hf.1, hf.2, rk_pre hK hp (T.setVm vm₁) hT hW₁⟩)
  dsimp only [Pt.U, Pt.locs, Pt.cells, Pt.slots] at X' e1 e2 h1 h2 h3 st
  subst h1; subst h2; subst h3
  exact ⟨v, (T.setVm vm₁).calling g' mk (Value.ref b :: As).toArray, t, U', L, hT, X', hL, e1, e2, hq, st⟩
end XROWS
/-! longer results -/
def ob4 {α α2 α3 α4 β : Type} (x : Option (α × α2 × α3 × α4)) (k : α → α2 → α3 → α4 → Option β) : Option β := match x with
  | some a => k a.1 a.2.1 a.2.2.1 a.2.2.2
  | none => none
def ob5 {α α2 α3 α4 α5 β : Type} (x : Option (α × α2 × α3 × α4 × α5)) (k : α → α2 → α3 → α4 → α5 → Option β) : Option β := match x with
  | some a => k a.1 a.2.1 a.2.2.1 a.2.2.2.1 a.2.2.2.2
  | none => none
theorem ob4_some {α α2 α3 α4 β : Type} {x : Option (α × α2 × α3 × α4)} {k : α → α2 → α3 → α4 → Option β} {r : β} (h : ob4 x k = some r) : ∃ a b c d, x = some (a, b, c, d) ∧ k a b c d = some r := by
  cases x with
  | none => cases h
  | some a => exact ⟨a.1, a.2.1, a.2.2.1, a.2.2.2, rfl, h⟩
theorem ob5_some {α α2 α3 α4 α5 β : Type} {x : Option (α × α2 × α3 × α4 × α5)} {k : α → α2 → α3 → α4 → α5 → Option β} {r : β} (h : ob5 x k = some r) : ∃ a b c d e, x = some (a, b, c, d, e) ∧ k a b c d e = some r := by
  cases x with
  | none => cases h
  | some a => exact ⟨a.1, a.2.1, a.2.2.1, a.2.2.2.1, a.2.2.2.2, rfl, h⟩
theorem rs4 {α β γ δ : Type} {a e : α} {b f : β} {c g : γ} {x y : δ} (h : some (a, b, c, x) = some (e, f, g, y)) : a = e ∧ b = f ∧ c = g ∧ x = y := ⟨(rs3 h).1, (rs3 h).2.1, Prod.mk.inj (rs3 h).2.2⟩
theorem rs5 {α β γ δ ε : Type} {a e : α} {b f : β} {c g : γ} {d i : δ} {x y : ε} (h : some (a, b, c, d, x) = some (e, f, g, i, y)) : a = e ∧ b = f ∧ c = g ∧ d = i ∧ x = y := ⟨(rs4 h).1, (rs4 h).2.1, (rs4 h).2.2.1, Prod.mk.inj (rs4 h).2.2.2⟩
